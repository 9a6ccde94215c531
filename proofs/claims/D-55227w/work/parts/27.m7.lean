/-! THE REFERENCE: what there is -/
def T_X3_pipeOf : List Value → Hp → (Res → Hp → Prop) → Prop := fun av g K => ∃ (A : Nat → Nat) (S : Nat → Int32) (F : Nat → Nat → Int32) (w : Nat → Int32) (g0 : Hp) (p v : Int32) (nb pn : Nat), mok A ∧ g = mdl A S F w g0 ∧ av = [.ref (A 0), .int p, .int v] ∧ w 3 = nI nb ∧ nb ≤ 10 ∧ (isP w p = true → p = nI pn ∧ pn < 10) ∧ K (.inl (some (.int (q_pipe w p v nb pn).2))) (mdl A (upd S 0 (q_pipe w p v nb pn).1) F w g0)
theorem C_X3_pipeOf {l : Launch} {s0 : State} (h0 : St0 l s0) : Ctr l s0 yX3_pipeOf (ws_ yX3_pipeOf cX3_pipeOf 3 (Option.some Jvm.ClassFile.FieldType.int)) 3 0 0 T_X3_pipeOf := by
  refine ctr_of h0 (by decide) ?_ ?_
  · rintro av g K ⟨A, S, F, w, g0, p, v, nb, pn, hA, rfl, rfl, hp0, hp1, hp2, hK⟩
    exact Nat.le_of_ble_eq_true rfl
  · rintro Z X av g K G ⟨A, S, F, w, g0, p, v, nb, pn, hA, rfl, rfl, hp0, hp1, hp2, hK⟩
    show Z 0 [some (.ref (A 0)), some (.int p), some (.int v)] [] _ _ _
    refine z_aload_n G dX3_pipeOf_0 rfl rfl rfl ?_
    refine z_iconst G dX3_pipeOf_1 rfl (v := 0) (by decide) ?_
    refine mz_put G hA dX3_pipeOf_2 rfl (j := 0) fl_X3_42_2p rfl rfl (by decide) rfl ?_
    refine z_aload_n G dX3_pipeOf_5 rfl rfl rfl ?_
    refine z_iload_n G dX3_pipeOf_6 rfl rfl rfl ?_
    refine z_V G dX3_pipeOf_7 rfl m_X3_isPipe q2711 (C_X3_isPipe h0) (by decide) (As := [_]) rfl rfl (Nat.le_of_ble_eq_true rfl) (Nat.zero_le _) (Nat.zero_le _) (mhas hA) (⟨_, _, _, _, _, _, hA, rfl, rfl, ?_⟩)
    refine z_if_ne G dX3_pipeOf_10 rfl (tgt := 19) (by decide) (fun c_10 => ?_) (fun c_10 => ?_)
    · have c_10b := bI_t c_10
      obtain ⟨rfl, hq⟩ := hp2 c_10b
      refine z_iload_n G dX3_pipeOf_19 rfl rfl rfl ?_
      rcases sw6 v with rfl | rfl | rfl | rfl | rfl | rfl | hsw
      · refine z_tableIn G dX3_pipeOf_20 (by decide) (by decide) (off := 40) rfl (tgt := 60) (by decide) ?_
        refine z_aload_n G dX3_pipeOf_60 rfl rfl rfl ?_
        refine z_iload_n G dX3_pipeOf_61 rfl rfl rfl ?_
        refine z_iload_n G dX3_pipeOf_62 rfl rfl rfl ?_
        refine z_V G dX3_pipeOf_63 rfl m_X3_of q2751 (C_X3_of h0) (by decide) (As := [_, _]) rfl rfl (Nat.le_of_ble_eq_true rfl) (Nat.zero_le _) (Nat.zero_le _) (mhas hA) (⟨_, _, _, _, _, _, _, hA, rfl, rfl, (by first | assumption | decide | omega), (by first | assumption | decide | omega), ?_⟩)
        exact z_iret G dX3_pipeOf_66 rfl rfl (by first | (rw [upd_upd]; simpa [q_pipe, isP, bI, c_10, c_10b] using hK) | simpa [q_pipe, isP, bI, c_10, c_10b] using hK)
      · refine z_tableIn G dX3_pipeOf_20 (by decide) (by decide) (off := 40) rfl (tgt := 60) (by decide) ?_
        refine z_aload_n G dX3_pipeOf_60 rfl rfl rfl ?_
        refine z_iload_n G dX3_pipeOf_61 rfl rfl rfl ?_
        refine z_iload_n G dX3_pipeOf_62 rfl rfl rfl ?_
        refine z_V G dX3_pipeOf_63 rfl m_X3_of q2751 (C_X3_of h0) (by decide) (As := [_, _]) rfl rfl (Nat.le_of_ble_eq_true rfl) (Nat.zero_le _) (Nat.zero_le _) (mhas hA) (⟨_, _, _, _, _, _, _, hA, rfl, rfl, (by first | assumption | decide | omega), (by first | assumption | decide | omega), ?_⟩)
        exact z_iret G dX3_pipeOf_66 rfl rfl (by first | (rw [upd_upd]; simpa [q_pipe, isP, bI, c_10, c_10b] using hK) | simpa [q_pipe, isP, bI, c_10, c_10b] using hK)
      · refine z_tableIn G dX3_pipeOf_20 (by decide) (by decide) (off := 40) rfl (tgt := 60) (by decide) ?_
        refine z_aload_n G dX3_pipeOf_60 rfl rfl rfl ?_
        refine z_iload_n G dX3_pipeOf_61 rfl rfl rfl ?_
        refine z_iload_n G dX3_pipeOf_62 rfl rfl rfl ?_
        refine z_V G dX3_pipeOf_63 rfl m_X3_of q2751 (C_X3_of h0) (by decide) (As := [_, _]) rfl rfl (Nat.le_of_ble_eq_true rfl) (Nat.zero_le _) (Nat.zero_le _) (mhas hA) (⟨_, _, _, _, _, _, _, hA, rfl, rfl, (by first | assumption | decide | omega), (by first | assumption | decide | omega), ?_⟩)
        exact z_iret G dX3_pipeOf_66 rfl rfl (by first | (rw [upd_upd]; simpa [q_pipe, isP, bI, c_10, c_10b] using hK) | simpa [q_pipe, isP, bI, c_10, c_10b] using hK)
      · refine z_tableIn G dX3_pipeOf_20 (by decide) (by decide) (off := 47) rfl (tgt := 67) (by decide) ?_
        refine z_aload_n G dX3_pipeOf_67 rfl rfl rfl ?_
        refine z_iload_n G dX3_pipeOf_68 rfl rfl rfl ?_
        refine z_V G dX3_pipeOf_69 rfl m_X3_placeOf q2715 (C_X3_placeOf h0) (by decide) (As := [_]) rfl rfl (Nat.le_of_ble_eq_true rfl) (Nat.zero_le _) (Nat.zero_le _) (mhas hA) (⟨_, _, _, _, _, _, _, hA, rfl, rfl, (by first | assumption | decide | omega), (by first | assumption | decide | omega), ?_⟩)
        exact z_iret G dX3_pipeOf_72 rfl rfl (by first | (rw [upd_upd]; simpa [q_pipe, isP, bI, c_10, c_10b] using hK) | simpa [q_pipe, isP, bI, c_10, c_10b] using hK)
      · refine z_tableIn G dX3_pipeOf_20 (by decide) (by decide) (off := 53) rfl (tgt := 73) (by decide) ?_
        refine z_aload_n G dX3_pipeOf_73 rfl rfl rfl ?_
        refine z_iload_n G dX3_pipeOf_74 rfl rfl rfl ?_
        refine z_iload_n G dX3_pipeOf_75 rfl rfl rfl ?_
        refine z_iconst G dX3_pipeOf_76 rfl (v := 1) (by decide) ?_
        refine z_isub G dX3_pipeOf_77 rfl ?_
        refine z_V G dX3_pipeOf_78 rfl m_X3_of q2751 (C_X3_of h0) (by decide) (As := [_, _]) rfl rfl (Nat.le_of_ble_eq_true rfl) (Nat.zero_le _) (Nat.zero_le _) (mhas hA) (⟨_, _, _, _, _, pn, 3, hA, rfl, rfl, hq, by decide, ?_⟩)
        exact z_iret G dX3_pipeOf_81 rfl rfl (by first | (rw [upd_upd]; simpa [q_pipe, isP, bI, c_10, c_10b] using hK) | simpa [q_pipe, isP, bI, c_10, c_10b] using hK)
      · refine z_tableIn G dX3_pipeOf_20 (by decide) (by decide) (off := 53) rfl (tgt := 73) (by decide) ?_
        refine z_aload_n G dX3_pipeOf_73 rfl rfl rfl ?_
        refine z_iload_n G dX3_pipeOf_74 rfl rfl rfl ?_
        refine z_iload_n G dX3_pipeOf_75 rfl rfl rfl ?_
        refine z_iconst G dX3_pipeOf_76 rfl (v := 1) (by decide) ?_
        refine z_isub G dX3_pipeOf_77 rfl ?_
        refine z_V G dX3_pipeOf_78 rfl m_X3_of q2751 (C_X3_of h0) (by decide) (As := [_, _]) rfl rfl (Nat.le_of_ble_eq_true rfl) (Nat.zero_le _) (Nat.zero_le _) (mhas hA) (⟨_, _, _, _, _, pn, 4, hA, rfl, rfl, hq, by decide, ?_⟩)
        exact z_iret G dX3_pipeOf_81 rfl rfl (by first | (rw [upd_upd]; simpa [q_pipe, isP, bI, c_10, c_10b] using hK) | simpa [q_pipe, isP, bI, c_10, c_10b] using hK)
      · refine z_tableOut G dX3_pipeOf_20 hsw.1 (tgt := 82) (by decide) ?_
        refine z_aload_n G dX3_pipeOf_82 rfl rfl rfl ?_
        refine z_iconst G dX3_pipeOf_83 rfl (v := 2) (by decide) ?_
        refine z_V G dX3_pipeOf_84 rfl m_X3_fails q2683 (C_X3_fails h0) (by decide) (As := [_]) rfl rfl (Nat.le_of_ble_eq_true rfl) (Nat.zero_le _) (Nat.zero_le _) (mhas hA) (⟨_, _, _, _, _, _, hA, rfl, rfl, ?_⟩)
        exact z_iret G dX3_pipeOf_87 rfl rfl (by first | (rw [upd_upd]; simpa [q_pipe, isP, bI, c_10, c_10b, hsw] using hK) | simpa [q_pipe, isP, bI, c_10, c_10b, hsw] using hK)
    · have c_10b := bI_f c_10
      refine z_aload_n G dX3_pipeOf_13 rfl rfl rfl ?_
      refine z_iconst G dX3_pipeOf_14 rfl (v := 1) (by decide) ?_
      refine z_V G dX3_pipeOf_15 rfl m_X3_fails q2683 (C_X3_fails h0) (by decide) (As := [_]) rfl rfl (Nat.le_of_ble_eq_true rfl) (Nat.zero_le _) (Nat.zero_le _) (mhas hA) (⟨_, _, _, _, _, _, hA, rfl, rfl, ?_⟩)
      exact z_iret G dX3_pipeOf_18 rfl rfl (by first | (rw [upd_upd]; simpa [q_pipe, isP, bI, c_10, c_10b] using hK) | simpa [q_pipe, isP, bI, c_10, c_10b] using hK)
def T_X3_draws : List Value → Hp → (Res → Hp → Prop) → Prop := fun av g K => ∃ (A : Nat → Nat) (S : Nat → Int32) (F : Nat → Nat → Int32) (w : Nat → Int32) (g0 : Hp) (p : Int32) (pn : Nat), mok A ∧ g = mdl A S F w g0 ∧ av = [.ref (A 0), .int p] ∧ (isP w p = true → p = nI pn ∧ pn < 10) ∧ K (.inl (some (.int (q_draws w p pn).2))) (mdl A (upd S 0 (q_draws w p pn).1) F w g0)
theorem C_X3_draws {l : Launch} {s0 : State} (h0 : St0 l s0) : Ctr l s0 yX3_draws (ws_ yX3_draws cX3_draws 2 (Option.some Jvm.ClassFile.FieldType.boolean)) 3 0 0 T_X3_draws := by
  refine ctr_of h0 (by decide) ?_ ?_
  · rintro av g K ⟨A, S, F, w, g0, p, pn, hA, rfl, rfl, hp0, hK⟩
    exact Nat.le_of_ble_eq_true rfl
  · rintro Z X av g K G ⟨A, S, F, w, g0, p, pn, hA, rfl, rfl, hp0, hK⟩
    show Z 0 [some (.ref (A 0)), some (.int p)] [] _ _ _
    refine z_aload_n G dX3_draws_0 rfl rfl rfl ?_
    refine z_iconst G dX3_draws_1 rfl (v := 0) (by decide) ?_
    refine mz_put G hA dX3_draws_2 rfl (j := 0) fl_X3_42_2p rfl rfl (by decide) rfl ?_
    refine z_aload_n G dX3_draws_5 rfl rfl rfl ?_
    refine z_iload_n G dX3_draws_6 rfl rfl rfl ?_
    refine z_V G dX3_draws_7 rfl m_X3_isPipe q2711 (C_X3_isPipe h0) (by decide) (As := [_]) rfl rfl (Nat.le_of_ble_eq_true rfl) (Nat.zero_le _) (Nat.zero_le _) (mhas hA) (⟨_, _, _, _, _, _, hA, rfl, rfl, ?_⟩)
    refine z_if_eq G dX3_draws_10 rfl (tgt := 29) (by decide) (fun c_10 => ?_) (fun c_10 => ?_)
    · have c_10b := bI_f c_10
      refine z_aload_n G dX3_draws_29 rfl rfl rfl ?_
      refine z_iconst G dX3_draws_30 rfl (v := 1) (by decide) ?_
      refine z_V G dX3_draws_31 rfl m_X3_fails q2683 (C_X3_fails h0) (by decide) (As := [_]) rfl rfl (Nat.le_of_ble_eq_true rfl) (Nat.zero_le _) (Nat.zero_le _) (mhas hA) (⟨_, _, _, _, _, _, hA, rfl, rfl, ?_⟩)
      refine z_if_le G dX3_draws_34 rfl (tgt := 41) (by decide) (fun c_34 => ?_) (fun c_34 => ?_)
      · have c_34n := Int32.not_lt.mpr c_34
        refine z_iconst G dX3_draws_41 rfl (v := 0) (by decide) ?_
        exact z_iret G dX3_draws_42 rfl rfl (by first | (rw [upd_upd]; simpa [q_draws, isP, bI, c_10, c_10b, c_34, c_34n] using hK) | simpa [q_draws, isP, bI, c_10, c_10b, c_34, c_34n] using hK)
      · exact absurd (by decide) c_34
    · have c_10b := bI_t c_10
      obtain ⟨rfl, hq⟩ := hp0 c_10b
      refine z_aload_n G dX3_draws_13 rfl rfl rfl ?_
      refine z_iload_n G dX3_draws_14 rfl rfl rfl ?_
      refine z_V G dX3_draws_15 rfl m_X3_whyNot q2847 (C_X3_whyNot h0) (by decide) (As := [_]) rfl rfl (Nat.le_of_ble_eq_true rfl) (Nat.zero_le _) (Nat.zero_le _) (mhas hA) (⟨_, _, _, _, _, _, hA, rfl, rfl, (by first | assumption | decide | omega), ?_⟩)
      refine z_if_ge G dX3_draws_18 rfl (tgt := 25) (by decide) (fun c_18 => ?_) (fun c_18 => ?_)
      · have c_18n := Int32.not_lt.mpr c_18
        refine z_iconst G dX3_draws_25 rfl (v := 0) (by decide) ?_
        refine z_goto G dX3_draws_26 (tgt := 42) (by decide) ?_
        exact z_iret G dX3_draws_42 rfl rfl (by first | (rw [upd_upd]; simpa [q_draws, isP, bI, c_10, c_10b, c_18, c_18n] using hK) | simpa [q_draws, isP, bI, c_10, c_10b, c_18, c_18n] using hK)
      · have c_18n := Int32.not_le.mp c_18
        refine z_iconst G dX3_draws_21 rfl (v := 1) (by decide) ?_
        refine z_goto G dX3_draws_22 (tgt := 42) (by decide) ?_
        exact z_iret G dX3_draws_42 rfl rfl (by first | (rw [upd_upd]; simpa [q_draws, isP, bI, c_10, c_10b, c_18, c_18n] using hK) | simpa [q_draws, isP, bI, c_10, c_10b, c_18, c_18n] using hK)
def T_X3_onBench : List Value → Hp → (Res → Hp → Prop) → Prop := fun av g K => ∃ (A : Nat → Nat) (S : Nat → Int32) (F : Nat → Nat → Int32) (w : Nat → Int32) (g0 : Hp) (p : Int32) (pn : Nat), mok A ∧ g = mdl A S F w g0 ∧ av = [.ref (A 0), .int p] ∧ (btw p 0 (w 3 - 1) = true → p = nI pn ∧ pn < 10) ∧ K (.inl (some (.int (q_bench w p pn).2))) (mdl A (upd S 0 (q_bench w p pn).1) F w g0)
theorem C_X3_onBench {l : Launch} {s0 : State} (h0 : St0 l s0) : Ctr l s0 yX3_onBench (ws_ yX3_onBench cX3_onBench 2 (Option.some Jvm.ClassFile.FieldType.int)) 2 0 0 T_X3_onBench := by
  refine ctr_of h0 (by decide) ?_ ?_
  · rintro av g K ⟨A, S, F, w, g0, p, pn, hA, rfl, rfl, hp0, hK⟩
    exact Nat.le_of_ble_eq_true rfl
  · rintro Z X av g K G ⟨A, S, F, w, g0, p, pn, hA, rfl, rfl, hp0, hK⟩
    show Z 0 [some (.ref (A 0)), some (.int p)] [] _ _ _
    refine z_aload_n G dX3_onBench_0 rfl rfl rfl ?_
    refine z_iconst G dX3_onBench_1 rfl (v := 0) (by decide) ?_
    refine mz_put G hA dX3_onBench_2 rfl (j := 0) fl_X3_42_2p rfl rfl (by decide) rfl ?_
    refine z_iload_n G dX3_onBench_5 rfl rfl rfl ?_
    refine z_iconst G dX3_onBench_6 rfl (v := 0) (by decide) ?_
    refine z_aload_n G dX3_onBench_7 rfl rfl rfl ?_
    refine mz_get G hA dX3_onBench_8 rfl (j := 7) fl_X3_16_2 rfl ?_
    refine z_iconst G dX3_onBench_11 rfl (v := 3) (by decide) ?_
    refine mz_wld G hA dX3_onBench_12 rfl (3) rfl (by decide) ?_
    refine z_iconst G dX3_onBench_13 rfl (v := 1) (by decide) ?_
    refine z_isub G dX3_onBench_14 rfl ?_
    refine z_S G dX3_onBench_15 rfl m_X3_isBetween q2668 (C_X3_isBetween h0) (by decide) (As := [_, _, _]) rfl rfl (Nat.le_of_ble_eq_true rfl) (Nat.zero_le _) (Nat.zero_le _) (⟨_, _, _, rfl, ?_⟩)
    refine z_if_eq G dX3_onBench_18 rfl (tgt := 33) (by decide) (fun c_18 => ?_) (fun c_18 => ?_)
    · have c_18b := bI_f c_18
      refine z_aload_n G dX3_onBench_33 rfl rfl rfl ?_
      refine z_iconst G dX3_onBench_34 rfl (v := 1) (by decide) ?_
      refine z_V G dX3_onBench_35 rfl m_X3_fails q2683 (C_X3_fails h0) (by decide) (As := [_]) rfl rfl (Nat.le_of_ble_eq_true rfl) (Nat.zero_le _) (Nat.zero_le _) (mhas hA) (⟨_, _, _, _, _, _, hA, rfl, rfl, ?_⟩)
      exact z_iret G dX3_onBench_38 rfl rfl (by first | (rw [upd_upd]; simpa [q_bench, isP, bI, c_18, c_18b] using hK) | simpa [q_bench, isP, bI, c_18, c_18b] using hK)
    · have c_18b := bI_t c_18
      obtain ⟨rfl, hq⟩ := hp0 c_18b
      refine z_aload_n G dX3_onBench_21 rfl rfl rfl ?_
      refine mz_get G hA dX3_onBench_22 rfl (j := 7) fl_X3_16_2 rfl ?_
      refine z_bipush G dX3_onBench_25 rfl (v := 12) (by decide) ?_
      refine z_iload_n G dX3_onBench_27 rfl rfl rfl ?_
      refine z_iaddN G (12) (pn) rfl rfl dX3_onBench_28 rfl ?_
      refine mz_wld G hA dX3_onBench_29 rfl (12 + pn) rfl (by omega) ?_
      refine z_goto G dX3_onBench_30 (tgt := 38) (by decide) ?_
      exact z_iret G dX3_onBench_38 rfl rfl (by first | (rw [upd_upd]; simpa [q_bench, isP, bI, c_18, c_18b] using hK) | simpa [q_bench, isP, bI, c_18, c_18b] using hK)
def T_X3_lumpOf : List Value → Hp → (Res → Hp → Prop) → Prop := fun av g K => ∃ (A : Nat → Nat) (S : Nat → Int32) (F : Nat → Nat → Int32) (w : Nat → Int32) (g0 : Hp) (p : Int32) (pn : Nat), mok A ∧ g = mdl A S F w g0 ∧ av = [.ref (A 0), .int p] ∧ (btw p 0 (w 4 - 1) = true → p = nI pn ∧ pn < 20) ∧ K (.inl (some (.int (q_lump w p pn).2))) (mdl A (upd S 0 (q_lump w p pn).1) F w g0)
theorem C_X3_lumpOf {l : Launch} {s0 : State} (h0 : St0 l s0) : Ctr l s0 yX3_lumpOf (ws_ yX3_lumpOf cX3_lumpOf 2 (Option.some Jvm.ClassFile.FieldType.int)) 2 0 0 T_X3_lumpOf := by
  refine ctr_of h0 (by decide) ?_ ?_
  · rintro av g K ⟨A, S, F, w, g0, p, pn, hA, rfl, rfl, hp0, hK⟩
    exact Nat.le_of_ble_eq_true rfl
  · rintro Z X av g K G ⟨A, S, F, w, g0, p, pn, hA, rfl, rfl, hp0, hK⟩
    show Z 0 [some (.ref (A 0)), some (.int p)] [] _ _ _
    refine z_aload_n G dX3_lumpOf_0 rfl rfl rfl ?_
    refine z_iconst G dX3_lumpOf_1 rfl (v := 0) (by decide) ?_
    refine mz_put G hA dX3_lumpOf_2 rfl (j := 0) fl_X3_42_2p rfl rfl (by decide) rfl ?_
    refine z_iload_n G dX3_lumpOf_5 rfl rfl rfl ?_
    refine z_iconst G dX3_lumpOf_6 rfl (v := 0) (by decide) ?_
    refine z_aload_n G dX3_lumpOf_7 rfl rfl rfl ?_
    refine mz_get G hA dX3_lumpOf_8 rfl (j := 7) fl_X3_16_2 rfl ?_
    refine z_iconst G dX3_lumpOf_11 rfl (v := 4) (by decide) ?_
    refine mz_wld G hA dX3_lumpOf_12 rfl (4) rfl (by decide) ?_
    refine z_iconst G dX3_lumpOf_13 rfl (v := 1) (by decide) ?_
    refine z_isub G dX3_lumpOf_14 rfl ?_
    refine z_S G dX3_lumpOf_15 rfl m_X3_isBetween q2668 (C_X3_isBetween h0) (by decide) (As := [_, _, _]) rfl rfl (Nat.le_of_ble_eq_true rfl) (Nat.zero_le _) (Nat.zero_le _) (⟨_, _, _, rfl, ?_⟩)
    refine z_if_eq G dX3_lumpOf_18 rfl (tgt := 33) (by decide) (fun c_18 => ?_) (fun c_18 => ?_)
    · have c_18b := bI_f c_18
      refine z_aload_n G dX3_lumpOf_33 rfl rfl rfl ?_
      refine z_iconst G dX3_lumpOf_34 rfl (v := 1) (by decide) ?_
      refine z_V G dX3_lumpOf_35 rfl m_X3_fails q2683 (C_X3_fails h0) (by decide) (As := [_]) rfl rfl (Nat.le_of_ble_eq_true rfl) (Nat.zero_le _) (Nat.zero_le _) (mhas hA) (⟨_, _, _, _, _, _, hA, rfl, rfl, ?_⟩)
      exact z_iret G dX3_lumpOf_38 rfl rfl (by first | (rw [upd_upd]; simpa [q_lump, isP, bI, c_18, c_18b] using hK) | simpa [q_lump, isP, bI, c_18, c_18b] using hK)
    · have c_18b := bI_t c_18
      obtain ⟨rfl, hq⟩ := hp0 c_18b
      refine z_aload_n G dX3_lumpOf_21 rfl rfl rfl ?_
      refine mz_get G hA dX3_lumpOf_22 rfl (j := 7) fl_X3_16_2 rfl ?_
      refine z_bipush G dX3_lumpOf_25 rfl (v := 22) (by decide) ?_
      refine z_iload_n G dX3_lumpOf_27 rfl rfl rfl ?_
      refine z_iaddN G (22) (pn) rfl rfl dX3_lumpOf_28 rfl ?_
      refine mz_wld G hA dX3_lumpOf_29 rfl (22 + pn) rfl (by omega) ?_
      refine z_goto G dX3_lumpOf_30 (tgt := 38) (by decide) ?_
      exact z_iret G dX3_lumpOf_38 rfl rfl (by first | (rw [upd_upd]; simpa [q_lump, isP, bI, c_18, c_18b] using hK) | simpa [q_lump, isP, bI, c_18, c_18b] using hK)
def T_X3_pieces : List Value → Hp → (Res → Hp → Prop) → Prop := fun av g K => ∃ (A : Nat → Nat) (S : Nat → Int32) (F : Nat → Nat → Int32) (w : Nat → Int32) (g0 : Hp) (p : Int32) (i : Nat), mok A ∧ g = mdl A S F w g0 ∧ av = [.ref (A 0), .int p] ∧ (btw p 1 6 = true → p = nI i ∧ 1 ≤ i ∧ i < 7) ∧ K (.inl (some (.int (q_pcs w p i).2))) (mdl A (upd S 0 (q_pcs w p i).1) F w g0)
theorem C_X3_pieces {l : Launch} {s0 : State} (h0 : St0 l s0) : Ctr l s0 yX3_pieces (ws_ yX3_pieces cX3_pieces 2 (Option.some Jvm.ClassFile.FieldType.int)) 2 0 0 T_X3_pieces := by
  refine ctr_of h0 (by decide) ?_ ?_
  · rintro av g K ⟨A, S, F, w, g0, p, i, hA, rfl, rfl, hp0, hK⟩
    exact Nat.le_of_ble_eq_true rfl
  · rintro Z X av g K G ⟨A, S, F, w, g0, p, i, hA, rfl, rfl, hp0, hK⟩
    show Z 0 [some (.ref (A 0)), some (.int p)] [] _ _ _
    refine z_aload_n G dX3_pieces_0 rfl rfl rfl ?_
    refine z_iconst G dX3_pieces_1 rfl (v := 0) (by decide) ?_
    refine mz_put G hA dX3_pieces_2 rfl (j := 0) fl_X3_42_2p rfl rfl (by decide) rfl ?_
    refine z_iload_n G dX3_pieces_5 rfl rfl rfl ?_
    refine z_iconst G dX3_pieces_6 rfl (v := 1) (by decide) ?_
    refine z_bipush G dX3_pieces_7 rfl (v := 6) (by decide) ?_
    refine z_S G dX3_pieces_9 rfl m_X3_isBetween q2668 (C_X3_isBetween h0) (by decide) (As := [_, _, _]) rfl rfl (Nat.le_of_ble_eq_true rfl) (Nat.zero_le _) (Nat.zero_le _) (⟨_, _, _, rfl, ?_⟩)
    refine z_if_eq G dX3_pieces_12 rfl (tgt := 27) (by decide) (fun c_12 => ?_) (fun c_12 => ?_)
    · have c_12b := bI_f c_12
      refine z_aload_n G dX3_pieces_27 rfl rfl rfl ?_
      refine z_iconst G dX3_pieces_28 rfl (v := 1) (by decide) ?_
      refine z_V G dX3_pieces_29 rfl m_X3_fails q2683 (C_X3_fails h0) (by decide) (As := [_]) rfl rfl (Nat.le_of_ble_eq_true rfl) (Nat.zero_le _) (Nat.zero_le _) (mhas hA) (⟨_, _, _, _, _, _, hA, rfl, rfl, ?_⟩)
      exact z_iret G dX3_pieces_32 rfl rfl (by first | (rw [upd_upd]; simpa [q_pcs, isP, bI, c_12, c_12b] using hK) | simpa [q_pcs, isP, bI, c_12, c_12b] using hK)
    · have c_12b := bI_t c_12
      obtain ⟨rfl, hq0, hq⟩ := hp0 c_12b
      refine z_aload_n G dX3_pieces_15 rfl rfl rfl ?_
      refine mz_get G hA dX3_pieces_16 rfl (j := 7) fl_X3_16_2 rfl ?_
      refine z_bipush G dX3_pieces_19 rfl (v := 42) (by decide) ?_
      refine z_iload_n G dX3_pieces_21 rfl rfl rfl ?_
      refine z_iaddN G (42) (i) rfl rfl dX3_pieces_22 rfl ?_
      refine mz_wld G hA dX3_pieces_23 rfl (42 + i) rfl (by omega) ?_
      refine z_goto G dX3_pieces_24 (tgt := 32) (by decide) ?_
      exact z_iret G dX3_pieces_32 rfl rfl (by first | (rw [upd_upd]; simpa [q_pcs, isP, bI, c_12, c_12b] using hK) | simpa [q_pcs, isP, bI, c_12, c_12b] using hK)
def T_X3_atLeast : List Value → Hp → (Res → Hp → Prop) → Prop := fun av g K => ∃ (A : Nat → Nat) (S : Nat → Int32) (F : Nat → Nat → Int32) (w : Nat → Int32) (g0 : Hp) (p : Int32) (i : Nat), mok A ∧ g = mdl A S F w g0 ∧ av = [.ref (A 0), .int p] ∧ (btw p 1 6 = true → p = nI i ∧ 1 ≤ i ∧ i < 7) ∧ K (.inl (some (.int (q_atl w p i).2))) (mdl A (upd S 0 (q_atl w p i).1) F w g0)
theorem C_X3_atLeast {l : Launch} {s0 : State} (h0 : St0 l s0) : Ctr l s0 yX3_atLeast (ws_ yX3_atLeast cX3_atLeast 4 (Option.some Jvm.ClassFile.FieldType.int)) 2 0 0 T_X3_atLeast := by
  refine ctr_of h0 (by decide) ?_ ?_
  · rintro av g K ⟨A, S, F, w, g0, p, i, hA, rfl, rfl, hp0, hK⟩
    exact Nat.le_of_ble_eq_true rfl
  · rintro Z X av g K G ⟨A, S, F, w, g0, p, i, hA, rfl, rfl, hp0, hK⟩
    show Z 0 [some (.ref (A 0)), some (.int p), none, none] [] _ _ _
    refine z_aload_n G dX3_atLeast_0 rfl rfl rfl ?_
    refine z_iconst G dX3_atLeast_1 rfl (v := 0) (by decide) ?_
    refine mz_put G hA dX3_atLeast_2 rfl (j := 0) fl_X3_42_2p rfl rfl (by decide) rfl ?_
    refine z_iload_n G dX3_atLeast_5 rfl rfl rfl ?_
    refine z_iconst G dX3_atLeast_6 rfl (v := 1) (by decide) ?_
    refine z_bipush G dX3_atLeast_7 rfl (v := 6) (by decide) ?_
    refine z_S G dX3_atLeast_9 rfl m_X3_isBetween q2668 (C_X3_isBetween h0) (by decide) (As := [_, _, _]) rfl rfl (Nat.le_of_ble_eq_true rfl) (Nat.zero_le _) (Nat.zero_le _) (⟨_, _, _, rfl, ?_⟩)
    refine z_if_ne G dX3_atLeast_12 rfl (tgt := 21) (by decide) (fun c_12 => ?_) (fun c_12 => ?_)
    · have c_12b := bI_t c_12
      obtain ⟨rfl, hq0, hq⟩ := hp0 c_12b
      refine z_iconst G dX3_atLeast_21 rfl (v := 0) (by decide) ?_
      refine z_istore_n G dX3_atLeast_22 rfl (i := 2) rfl (by decide) (zcat_s rfl) (show Z 23 [_, _, _, _] _ _ _ _ from ?_)
      refine z_iload_n G dX3_atLeast_23 rfl rfl rfl ?_
      refine z_istore_n G dX3_atLeast_24 rfl (i := 3) rfl (by decide) (zcat_s rfl) (show Z 25 [_, _, _, _] _ _ _ _ from ?_)
      have L25 : ∀ (n k : Nat) (v : Int32), k + n = 7 → i ≤ k → v = r_atl w i (k - i) → Z 25 [some (.ref (A 0)), some (.int (nI i)), some (.int v), some (.int (nI k))] [] (mdl A (upd S 0 0) F w g0) 0 0 := by
        intro n
        induction n with
        | zero =>
          intro k v hk h1 hv
          obtain rfl : k = 7 := by omega
          subst hv
          refine z_iload_n G dX3_atLeast_25 rfl rfl rfl ?_
          refine z_bipush G dX3_atLeast_26 rfl (v := 6) (by decide) ?_
          refine z_icmp_gt G dX3_atLeast_28 rfl (tgt := 49) (by decide) (fun c_28 => ?_) (fun c_28 => ?_)
          · have c_28n := Int32.not_le.mpr c_28
            have c_28N := (nI_ltI (a := 6) (b := 7) (by omega) (by omega)).mp c_28
            refine z_iload_n G dX3_atLeast_49 rfl rfl rfl ?_
            exact z_iret G dX3_atLeast_50 rfl rfl (by first | (rw [upd_upd]; simpa [q_atl, isP, bI, c_12, c_12b, c_28, c_28n, c_28N] using hK) | simpa [q_atl, isP, bI, c_12, c_12b, c_28, c_28n, c_28N] using hK)
          · exact absurd ((not_congr <| nI_ltI (a := 6) (b := 7) (by omega) (by omega)).mp c_28) (by omega)
        | succ n ih =>
          intro k v hk h1 hv
          refine z_iload_n G dX3_atLeast_25 rfl rfl rfl ?_
          refine z_bipush G dX3_atLeast_26 rfl (v := 6) (by decide) ?_
          refine z_icmp_gt G dX3_atLeast_28 rfl (tgt := 49) (by decide) (fun c_28 => ?_) (fun c_28 => ?_)
          · exact absurd ((nI_ltI (a := 6) (b := k) (by omega) (by omega)).mp c_28) (by omega)
          · have c_28n := Int32.not_lt.mp c_28
            have c_28N := (not_congr <| nI_ltI (a := 6) (b := k) (by omega) (by omega)).mp c_28
            refine z_iload_n G dX3_atLeast_31 rfl rfl rfl ?_
            refine z_aload_n G dX3_atLeast_32 rfl rfl rfl ?_
            refine mz_get G hA dX3_atLeast_33 rfl (j := 7) fl_X3_16_2 rfl ?_
            refine z_bipush G dX3_atLeast_36 rfl (v := 42) (by decide) ?_
            refine z_iload_n G dX3_atLeast_38 rfl rfl rfl ?_
            refine z_iaddN G (42) (k) rfl rfl dX3_atLeast_39 rfl ?_
            refine mz_wld G hA dX3_atLeast_40 rfl (42 + k) rfl (by omega) ?_
            refine z_iadd G dX3_atLeast_41 rfl ?_
            refine z_istore_n G dX3_atLeast_42 rfl (i := 2) rfl (by decide) (zcat_s rfl) (show Z 43 [_, _, _, _] _ _ _ _ from ?_)
            refine z_iinc G dX3_atLeast_43 rfl rfl (nI_1 _) (by decide) (zcat_s rfl) (show Z 46 [_, _, _, _] _ _ _ _ from ?_)
            refine z_goto G dX3_atLeast_46 (tgt := 25) (by decide) ?_
            exact ih (k + 1) _ (by omega) (by omega) (by rw [hv, show k + 1 - i = (k - i) + 1 by omega]; show _ = r_atl w i (k - i) + w (42 + (i + (k - i))); rw [show i + (k - i) = k by omega])
      exact L25 (7 - i) i 0 (by omega) (Nat.le_refl _) (by rw [Nat.sub_self]; rfl)
    · have c_12b := bI_f c_12
      refine z_aload_n G dX3_atLeast_15 rfl rfl rfl ?_
      refine z_iconst G dX3_atLeast_16 rfl (v := 1) (by decide) ?_
      refine z_V G dX3_atLeast_17 rfl m_X3_fails q2683 (C_X3_fails h0) (by decide) (As := [_]) rfl rfl (Nat.le_of_ble_eq_true rfl) (Nat.zero_le _) (Nat.zero_le _) (mhas hA) (⟨_, _, _, _, _, _, hA, rfl, rfl, ?_⟩)
      exact z_iret G dX3_atLeast_20 rfl rfl (by first | (rw [upd_upd]; simpa [q_atl, isP, bI, c_12, c_12b] using hK) | simpa [q_atl, isP, bI, c_12, c_12b] using hK)
def T_X3_driest : List Value → Hp → (Res → Hp → Prop) → Prop := fun av g K => ∃ (A : Nat → Nat) (S : Nat → Int32) (F : Nat → Nat → Int32) (w : Nat → Int32) (g0 : Hp) (nl : Nat), mok A ∧ g = mdl A S F w g0 ∧ av = [.ref (A 0)] ∧ w 4 = nI nl ∧ nl ≤ 20 ∧ K (.inl (some (.int (q_dst w nl).2))) (mdl A (upd S 0 (q_dst w nl).1) F w g0)
theorem C_X3_driest {l : Launch} {s0 : State} (h0 : St0 l s0) : Ctr l s0 yX3_driest (ws_ yX3_driest cX3_driest 3 (Option.some Jvm.ClassFile.FieldType.int)) 2 0 0 T_X3_driest := by
  refine ctr_of h0 (by decide) ?_ ?_
  · rintro av g K ⟨A, S, F, w, g0, nl, hA, rfl, rfl, hp0, hp1, hK⟩
    exact Nat.le_of_ble_eq_true rfl
  · rintro Z X av g K G ⟨A, S, F, w, g0, nl, hA, rfl, rfl, hp0, hp1, hK⟩
    show Z 0 [some (.ref (A 0)), none, none] [] _ _ _
    refine z_aload_n G dX3_driest_0 rfl rfl rfl ?_
    refine z_iconst G dX3_driest_1 rfl (v := 0) (by decide) ?_
    refine mz_put G hA dX3_driest_2 rfl (j := 0) fl_X3_42_2p rfl rfl (by decide) rfl ?_
    refine z_aload_n G dX3_driest_5 rfl rfl rfl ?_
    refine mz_get G hA dX3_driest_6 rfl (j := 7) fl_X3_16_2 rfl ?_
    refine z_iconst G dX3_driest_9 rfl (v := 4) (by decide) ?_
    refine mz_wldN G hA dX3_driest_10 rfl (4) rfl (by decide) (nl) hp0 ?_
    refine z_if_ne G dX3_driest_11 rfl (tgt := 20) (by decide) (fun c_11 => ?_) (fun c_11 => ?_)
    · have c_11N := (not_congr <| nI_eq (a := nl) (b := 0) (by omega) (by omega)).mp c_11
      refine z_iconst G dX3_driest_20 rfl (v := 0) (by decide) ?_
      refine z_istore_n G dX3_driest_21 rfl (i := 1) rfl (by decide) (zcat_s rfl) (show Z 22 [_, _, _] _ _ _ _ from ?_)
      refine z_iconst G dX3_driest_22 rfl (v := 1) (by decide) ?_
      refine z_istore_n G dX3_driest_23 rfl (i := 2) rfl (by decide) (zcat_s rfl) (show Z 24 [_, _, _] _ _ _ _ from ?_)
      have L24 : ∀ (n i b : Nat), i + n = nl → 1 ≤ i → b = r_dst w i → b < 20 → Z 24 [some (.ref (A 0)), some (.int (nI b)), some (.int (nI i))] [] (mdl A (upd S 0 0) F w g0) 0 0 := by
        intro n
        induction n with
        | zero =>
          intro i b hi h1 hb hb9
          refine z_iload_n G dX3_driest_24 rfl rfl rfl ?_
          refine z_aload_n G dX3_driest_25 rfl rfl rfl ?_
          refine mz_get G hA dX3_driest_26 rfl (j := 7) fl_X3_16_2 rfl ?_
          refine z_iconst G dX3_driest_29 rfl (v := 4) (by decide) ?_
          refine mz_wldN G hA dX3_driest_30 rfl (4) rfl (by decide) (nl) hp0 ?_
          refine z_icmp_ge G dX3_driest_31 rfl (tgt := 67) (by decide) (fun c_31 => ?_) (fun c_31 => ?_)
          · have c_31n := Int32.not_lt.mpr c_31
            have c_31N := (nI_leI (a := nl) (b := i) (by omega) (by omega)).mp c_31
            refine z_iload_n G dX3_driest_67 rfl rfl rfl ?_
            exact z_iret G dX3_driest_68 rfl rfl (by have e : i = nl := (by omega); rw [q_dst, if_neg c_11N, ← e, ← hb] at hK; exact hK)
          · exact absurd ((not_congr <| nI_leI (a := nl) (b := i) (by omega) (by omega)).mp c_31) (by omega)
        | succ n ih =>
          intro i b hi h1 hb hb9
          refine z_iload_n G dX3_driest_24 rfl rfl rfl ?_
          refine z_aload_n G dX3_driest_25 rfl rfl rfl ?_
          refine mz_get G hA dX3_driest_26 rfl (j := 7) fl_X3_16_2 rfl ?_
          refine z_iconst G dX3_driest_29 rfl (v := 4) (by decide) ?_
          refine mz_wldN G hA dX3_driest_30 rfl (4) rfl (by decide) (nl) hp0 ?_
          refine z_icmp_ge G dX3_driest_31 rfl (tgt := 67) (by decide) (fun c_31 => ?_) (fun c_31 => ?_)
          · exact absurd ((nI_leI (a := nl) (b := i) (by omega) (by omega)).mp c_31) (by omega)
          · have c_31n := Int32.not_le.mp c_31
            have c_31N := (not_congr <| nI_leI (a := nl) (b := i) (by omega) (by omega)).mp c_31
            refine z_aload_n G dX3_driest_34 rfl rfl rfl ?_
            refine mz_get G hA dX3_driest_35 rfl (j := 7) fl_X3_16_2 rfl ?_
            refine z_bipush G dX3_driest_38 rfl (v := 22) (by decide) ?_
            refine z_iload_n G dX3_driest_40 rfl rfl rfl ?_
            refine z_iaddN G (22) (i) rfl rfl dX3_driest_41 rfl ?_
            refine mz_wld G hA dX3_driest_42 rfl (22 + i) rfl (by omega) ?_
            refine z_aload_n G dX3_driest_43 rfl rfl rfl ?_
            refine mz_get G hA dX3_driest_44 rfl (j := 7) fl_X3_16_2 rfl ?_
            refine z_bipush G dX3_driest_47 rfl (v := 22) (by decide) ?_
            refine z_iload_n G dX3_driest_49 rfl rfl rfl ?_
            refine z_iaddN G (22) (b) rfl rfl dX3_driest_50 rfl ?_
            refine mz_wld G hA dX3_driest_51 rfl (22 + b) rfl (by omega) ?_
            refine z_icmp_ge G dX3_driest_52 rfl (tgt := 59) (by decide) (fun c_52 => ?_) (fun c_52 => ?_)
            · have c_52n := Int32.not_lt.mpr c_52
              refine z_iload_n G dX3_driest_59 rfl rfl rfl ?_
              refine z_istore_n G dX3_driest_60 rfl (i := 1) rfl (by decide) (zcat_s rfl) (show Z 61 [_, _, _] _ _ _ _ from ?_)
              refine z_iinc G dX3_driest_61 rfl rfl (nI_1 _) (by decide) (zcat_s rfl) (show Z 64 [_, _, _] _ _ _ _ from ?_)
              refine z_goto G dX3_driest_64 (tgt := 24) (by decide) ?_
              first | exact ih (i + 1) b (by omega) (by omega) (by rw [r_dst, ← hb, if_pos c_52]) hb9 | exact ih (i + 1) i (by omega) (by omega) (by rw [r_dst, ← hb, if_neg c_52]) (by omega)
            · have c_52n := Int32.not_le.mp c_52
              refine z_iload_n G dX3_driest_55 rfl rfl rfl ?_
              refine z_goto G dX3_driest_56 (tgt := 60) (by decide) ?_
              refine z_istore_n G dX3_driest_60 rfl (i := 1) rfl (by decide) (zcat_s rfl) (show Z 61 [_, _, _] _ _ _ _ from ?_)
              refine z_iinc G dX3_driest_61 rfl rfl (nI_1 _) (by decide) (zcat_s rfl) (show Z 64 [_, _, _] _ _ _ _ from ?_)
              refine z_goto G dX3_driest_64 (tgt := 24) (by decide) ?_
              first | exact ih (i + 1) b (by omega) (by omega) (by rw [r_dst, ← hb, if_pos c_52]) hb9 | exact ih (i + 1) i (by omega) (by omega) (by rw [r_dst, ← hb, if_neg c_52]) (by omega)
      exact L24 (nl - 1) 1 0 (by omega) (by decide) (dst_1 w).symm (by decide)
    · have c_11N := (nI_eq (a := nl) (b := 0) (by omega) (by omega)).mp c_11
      refine z_aload_n G dX3_driest_14 rfl rfl rfl ?_
      refine z_iconst G dX3_driest_15 rfl (v := 1) (by decide) ?_
      refine z_V G dX3_driest_16 rfl m_X3_fails q2683 (C_X3_fails h0) (by decide) (As := [_]) rfl rfl (Nat.le_of_ble_eq_true rfl) (Nat.zero_le _) (Nat.zero_le _) (mhas hA) (⟨_, _, _, _, _, _, hA, rfl, rfl, ?_⟩)
      exact z_iret G dX3_driest_19 rfl rfl (by first | (rw [upd_upd]; simpa [q_dst, isP, bI, c_11, c_11N] using hK) | simpa [q_dst, isP, bI, c_11, c_11N] using hK)
def T_X3_hasBeside : List Value → Hp → (Res → Hp → Prop) → Prop := fun av g K => ∃ (A : Nat → Nat) (S : Nat → Int32) (F : Nat → Nat → Int32) (w : Nat → Int32) (g0 : Hp) (p : Nat), mok A ∧ g = mdl A S F w g0 ∧ av = [.ref (A 0), .int (nI p)] ∧ p < 8 ∧ K (.inl (some (.int (bI (r_bsd w p))))) g
theorem C_X3_hasBeside {l : Launch} {s0 : State} (h0 : St0 l s0) : Ctr l s0 yX3_hasBeside (ws_ yX3_hasBeside cX3_hasBeside 2 (Option.some Jvm.ClassFile.FieldType.boolean)) 2 0 0 T_X3_hasBeside := by
  refine ctr_of h0 (by decide) ?_ ?_
  · rintro av g K ⟨A, S, F, w, g0, p, hA, rfl, rfl, hp0, hK⟩
    exact Nat.le_of_ble_eq_true rfl
  · rintro Z X av g K G ⟨A, S, F, w, g0, p, hA, rfl, rfl, hp0, hK⟩
    show Z 0 [some (.ref (A 0)), some (.int (nI p))] [] _ _ _
    refine z_iload_n G dX3_hasBeside_0 rfl rfl rfl ?_
    refine z_if_le G dX3_hasBeside_1 rfl (tgt := 14) (by decide) (fun c_1 => ?_) (fun c_1 => ?_)
    · have c_1n := Int32.not_lt.mpr c_1
      have c_1N := (nI_leI (a := p) (b := 0) (by omega) (by omega)).mp c_1
      refine z_iload_n G dX3_hasBeside_14 rfl rfl rfl ?_
      refine z_iconst G dX3_hasBeside_15 rfl (v := 1) (by decide) ?_
      refine z_iaddN G (p) (1) rfl rfl dX3_hasBeside_16 rfl ?_
      refine z_bipush G dX3_hasBeside_17 rfl (v := 8) (by decide) ?_
      refine z_icmp_ge G dX3_hasBeside_19 rfl (tgt := 36) (by decide) (fun c_19 => ?_) (fun c_19 => ?_)
      · have c_19n := Int32.not_lt.mpr c_19
        have c_19N := (nI_leI (a := 8) (b := p + 1) (by omega) (by omega)).mp c_19
        refine z_iconst G dX3_hasBeside_36 rfl (v := 0) (by decide) ?_
        exact z_iret G dX3_hasBeside_37 rfl rfl (by simp only [r_bsd, bI, c_1, c_1n, c_1N, c_19, c_19n, c_19N, eq_self, if_true, if_false, decide_true, decide_false, Bool.not_true, Bool.not_false, reduceIte, not_true, not_false_eq_true, Bool.false_eq_true] at hK ⊢; exact hK)
      · have c_19n := Int32.not_le.mp c_19
        have c_19N := (not_congr <| nI_leI (a := 8) (b := p + 1) (by omega) (by omega)).mp c_19
        refine z_aload_n G dX3_hasBeside_22 rfl rfl rfl ?_
        refine z_iload_n G dX3_hasBeside_23 rfl rfl rfl ?_
        refine z_iconst G dX3_hasBeside_24 rfl (v := 1) (by decide) ?_
        refine z_iaddN G (p) (1) rfl rfl dX3_hasBeside_25 rfl ?_
        refine z_V G dX3_hasBeside_26 rfl m_X3_isTaken q2901 (C_X3_isTaken h0) (by decide) (As := [_]) rfl rfl (Nat.le_of_ble_eq_true rfl) (Nat.zero_le _) (Nat.zero_le _) (mhas hA) (⟨_, _, _, _, _, _, hA, rfl, rfl, ?_⟩)
        refine z_if_eq G dX3_hasBeside_29 rfl (tgt := 36) (by decide) (fun c_29 => ?_) (fun c_29 => ?_)
        · have c_29b := bI_f c_29
          refine z_iconst G dX3_hasBeside_36 rfl (v := 0) (by decide) ?_
          exact z_iret G dX3_hasBeside_37 rfl rfl (by simp only [r_bsd, bI, c_1, c_1n, c_1N, c_19, c_19n, c_19N, c_29, c_29b, eq_self, if_true, if_false, decide_true, decide_false, Bool.not_true, Bool.not_false, reduceIte, not_true, not_false_eq_true, Bool.false_eq_true] at hK ⊢; exact hK)
        · have c_29b := bI_t c_29
          refine z_iconst G dX3_hasBeside_32 rfl (v := 1) (by decide) ?_
          refine z_goto G dX3_hasBeside_33 (tgt := 37) (by decide) ?_
          exact z_iret G dX3_hasBeside_37 rfl rfl (by simp only [r_bsd, bI, c_1, c_1n, c_1N, c_19, c_19n, c_19N, c_29, c_29b, eq_self, if_true, if_false, decide_true, decide_false, Bool.not_true, Bool.not_false, reduceIte, not_true, not_false_eq_true, Bool.false_eq_true] at hK ⊢; exact hK)
    · have c_1n := Int32.not_le.mp c_1
      have c_1N := (not_congr <| nI_leI (a := p) (b := 0) (by omega) (by omega)).mp c_1
      refine z_aload_n G dX3_hasBeside_4 rfl rfl rfl ?_
      refine z_iload_n G dX3_hasBeside_5 rfl rfl rfl ?_
      refine z_iconst G dX3_hasBeside_6 rfl (v := 1) (by decide) ?_
      refine z_isubN G (p) (1) rfl rfl (by omega) dX3_hasBeside_7 rfl ?_
      refine z_V G dX3_hasBeside_8 rfl m_X3_isTaken q2901 (C_X3_isTaken h0) (by decide) (As := [_]) rfl rfl (Nat.le_of_ble_eq_true rfl) (Nat.zero_le _) (Nat.zero_le _) (mhas hA) (⟨_, _, _, _, _, _, hA, rfl, rfl, ?_⟩)
      refine z_if_ne G dX3_hasBeside_11 rfl (tgt := 32) (by decide) (fun c_11 => ?_) (fun c_11 => ?_)
      · have c_11b := bI_t c_11
        refine z_iconst G dX3_hasBeside_32 rfl (v := 1) (by decide) ?_
        refine z_goto G dX3_hasBeside_33 (tgt := 37) (by decide) ?_
        exact z_iret G dX3_hasBeside_37 rfl rfl (by simp only [r_bsd, bI, c_1, c_1n, c_1N, c_11, c_11b, eq_self, if_true, if_false, decide_true, decide_false, Bool.not_true, Bool.not_false, reduceIte, not_true, not_false_eq_true, Bool.false_eq_true] at hK ⊢; exact hK)
      · have c_11b := bI_f c_11
        refine z_iload_n G dX3_hasBeside_14 rfl rfl rfl ?_
        refine z_iconst G dX3_hasBeside_15 rfl (v := 1) (by decide) ?_
        refine z_iaddN G (p) (1) rfl rfl dX3_hasBeside_16 rfl ?_
        refine z_bipush G dX3_hasBeside_17 rfl (v := 8) (by decide) ?_
        refine z_icmp_ge G dX3_hasBeside_19 rfl (tgt := 36) (by decide) (fun c_19 => ?_) (fun c_19 => ?_)
        · have c_19n := Int32.not_lt.mpr c_19
          have c_19N := (nI_leI (a := 8) (b := p + 1) (by omega) (by omega)).mp c_19
          refine z_iconst G dX3_hasBeside_36 rfl (v := 0) (by decide) ?_
          exact z_iret G dX3_hasBeside_37 rfl rfl (by simp only [r_bsd, bI, c_1, c_1n, c_1N, c_11, c_11b, c_19, c_19n, c_19N, eq_self, if_true, if_false, decide_true, decide_false, Bool.not_true, Bool.not_false, reduceIte, not_true, not_false_eq_true, Bool.false_eq_true] at hK ⊢; exact hK)
        · have c_19n := Int32.not_le.mp c_19
          have c_19N := (not_congr <| nI_leI (a := 8) (b := p + 1) (by omega) (by omega)).mp c_19
          refine z_aload_n G dX3_hasBeside_22 rfl rfl rfl ?_
          refine z_iload_n G dX3_hasBeside_23 rfl rfl rfl ?_
          refine z_iconst G dX3_hasBeside_24 rfl (v := 1) (by decide) ?_
          refine z_iaddN G (p) (1) rfl rfl dX3_hasBeside_25 rfl ?_
          refine z_V G dX3_hasBeside_26 rfl m_X3_isTaken q2901 (C_X3_isTaken h0) (by decide) (As := [_]) rfl rfl (Nat.le_of_ble_eq_true rfl) (Nat.zero_le _) (Nat.zero_le _) (mhas hA) (⟨_, _, _, _, _, _, hA, rfl, rfl, ?_⟩)
          refine z_if_eq G dX3_hasBeside_29 rfl (tgt := 36) (by decide) (fun c_29 => ?_) (fun c_29 => ?_)
          · have c_29b := bI_f c_29
            refine z_iconst G dX3_hasBeside_36 rfl (v := 0) (by decide) ?_
            exact z_iret G dX3_hasBeside_37 rfl rfl (by simp only [r_bsd, bI, c_1, c_1n, c_1N, c_11, c_11b, c_19, c_19n, c_19N, c_29, c_29b, eq_self, if_true, if_false, decide_true, decide_false, Bool.not_true, Bool.not_false, reduceIte, not_true, not_false_eq_true, Bool.false_eq_true] at hK ⊢; exact hK)
          · have c_29b := bI_t c_29
            refine z_iconst G dX3_hasBeside_32 rfl (v := 1) (by decide) ?_
            refine z_goto G dX3_hasBeside_33 (tgt := 37) (by decide) ?_
            exact z_iret G dX3_hasBeside_37 rfl rfl (by simp only [r_bsd, bI, c_1, c_1n, c_1N, c_11, c_11b, c_19, c_19n, c_19N, c_29, c_29b, eq_self, if_true, if_false, decide_true, decide_false, Bool.not_true, Bool.not_false, reduceIte, not_true, not_false_eq_true, Bool.false_eq_true] at hK ⊢; exact hK)
def T_X3_alone : List Value → Hp → (Res → Hp → Prop) → Prop := fun av g K => ∃ (A : Nat → Nat) (S : Nat → Int32) (F : Nat → Nat → Int32) (w : Nat → Int32) (g0 : Hp) , mok A ∧ g = mdl A S F w g0 ∧ av = [.ref (A 0)] ∧ K (.inl (some (.int (r_aln w 8)))) (mdl A (upd S 0 0) F w g0)
theorem C_X3_alone {l : Launch} {s0 : State} (h0 : St0 l s0) : Ctr l s0 yX3_alone (ws_ yX3_alone cX3_alone 3 (Option.some Jvm.ClassFile.FieldType.int)) 3 0 0 T_X3_alone := by
  refine ctr_of h0 (by decide) ?_ ?_
  · rintro av g K ⟨A, S, F, w, g0, hA, rfl, rfl, hK⟩
    exact Nat.le_of_ble_eq_true rfl
  · rintro Z X av g K G ⟨A, S, F, w, g0, hA, rfl, rfl, hK⟩
    show Z 0 [some (.ref (A 0)), none, none] [] _ _ _
    refine z_aload_n G dX3_alone_0 rfl rfl rfl ?_
    refine z_iconst G dX3_alone_1 rfl (v := 0) (by decide) ?_
    refine mz_put G hA dX3_alone_2 rfl (j := 0) fl_X3_42_2p rfl rfl (by decide) rfl ?_
    refine z_iconst G dX3_alone_5 rfl (v := 0) (by decide) ?_
    refine z_istore_n G dX3_alone_6 rfl (i := 1) rfl (by decide) (zcat_s rfl) (show Z 7 [_, _, _] _ _ _ _ from ?_)
    refine z_iconst G dX3_alone_7 rfl (v := 0) (by decide) ?_
    refine z_istore_n G dX3_alone_8 rfl (i := 2) rfl (by decide) (zcat_s rfl) (show Z 9 [_, _, _] _ _ _ _ from ?_)
    have L9 : ∀ (n i : Nat) (v : Int32), i + n = 8 → v = r_aln w i → Z 9 [some (.ref (A 0)), some (.int v), some (.int (nI i))] [] (mdl A (upd S 0 0) F w g0) 0 0 := by
      intro n
      induction n with
      | zero =>
        intro i v hi hv
        refine z_iload_n G dX3_alone_9 rfl rfl rfl ?_
        refine z_bipush G dX3_alone_10 rfl (v := 8) (by decide) ?_
        refine z_icmp_ge G dX3_alone_12 rfl (tgt := 47) (by decide) (fun c_12 => ?_) (fun c_12 => ?_)
        · have c_12n := Int32.not_lt.mpr c_12
          have c_12N := (nI_leI (a := 8) (b := i) (by omega) (by omega)).mp c_12
          obtain rfl : i = 8 := by omega
          subst hv
          refine z_iload_n G dX3_alone_47 rfl rfl rfl ?_
          exact z_iret G dX3_alone_48 rfl rfl (hK)
        · exact absurd ((not_congr <| nI_leI (a := 8) (b := i) (by omega) (by omega)).mp c_12) (by omega)
      | succ n ih =>
        intro i v hi hv
        refine z_iload_n G dX3_alone_9 rfl rfl rfl ?_
        refine z_bipush G dX3_alone_10 rfl (v := 8) (by decide) ?_
        refine z_icmp_ge G dX3_alone_12 rfl (tgt := 47) (by decide) (fun c_12 => ?_) (fun c_12 => ?_)
        · exact absurd ((nI_leI (a := 8) (b := i) (by omega) (by omega)).mp c_12) (by omega)
        · have c_12n := Int32.not_le.mp c_12
          have c_12N := (not_congr <| nI_leI (a := 8) (b := i) (by omega) (by omega)).mp c_12
          refine z_iload_n G dX3_alone_15 rfl rfl rfl ?_
          refine z_aload_n G dX3_alone_16 rfl rfl rfl ?_
          refine z_iload_n G dX3_alone_17 rfl rfl rfl ?_
          refine z_V G dX3_alone_18 rfl m_X3_isTaken q2901 (C_X3_isTaken h0) (by decide) (As := [_]) rfl rfl (Nat.le_of_ble_eq_true rfl) (Nat.zero_le _) (Nat.zero_le _) (mhas hA) (⟨_, _, _, _, _, _, hA, rfl, rfl, ?_⟩)
          refine z_if_eq G dX3_alone_21 rfl (tgt := 38) (by decide) (fun c_21 => ?_) (fun c_21 => ?_)
          · have c_21b := bI_f c_21
            refine z_iconst G dX3_alone_38 rfl (v := 0) (by decide) ?_
            refine z_ior G dX3_alone_39 rfl ?_
            refine z_istore_n G dX3_alone_40 rfl (i := 1) rfl (by decide) (zcat_s rfl) (show Z 41 [_, _, _] _ _ _ _ from ?_)
            refine z_iinc G dX3_alone_41 rfl rfl (nI_1 _) (by decide) (zcat_s rfl) (show Z 44 [_, _, _] _ _ _ _ from ?_)
            refine z_goto G dX3_alone_44 (tgt := 9) (by decide) ?_
            exact ih (i + 1) _ (by omega) (by rw [hv]; simp [r_aln, c_12, c_12n, c_12N, c_21, c_21b])
          · have c_21b := bI_t c_21
            refine z_aload_n G dX3_alone_24 rfl rfl rfl ?_
            refine z_iload_n G dX3_alone_25 rfl rfl rfl ?_
            refine z_V G dX3_alone_26 rfl m_X3_hasBeside q2985 (C_X3_hasBeside h0) (by decide) (As := [_]) rfl rfl (Nat.le_of_ble_eq_true rfl) (Nat.zero_le _) (Nat.zero_le _) (mhas hA) (⟨_, _, _, _, _, _, hA, rfl, rfl, (by first | assumption | decide | omega), ?_⟩)
            refine z_if_ne G dX3_alone_29 rfl (tgt := 38) (by decide) (fun c_29 => ?_) (fun c_29 => ?_)
            · have c_29b := bI_t c_29
              refine z_iconst G dX3_alone_38 rfl (v := 0) (by decide) ?_
              refine z_ior G dX3_alone_39 rfl ?_
              refine z_istore_n G dX3_alone_40 rfl (i := 1) rfl (by decide) (zcat_s rfl) (show Z 41 [_, _, _] _ _ _ _ from ?_)
              refine z_iinc G dX3_alone_41 rfl rfl (nI_1 _) (by decide) (zcat_s rfl) (show Z 44 [_, _, _] _ _ _ _ from ?_)
              refine z_goto G dX3_alone_44 (tgt := 9) (by decide) ?_
              exact ih (i + 1) _ (by omega) (by rw [hv]; simp [r_aln, c_12, c_12n, c_12N, c_21, c_21b, c_29, c_29b])
            · have c_29b := bI_f c_29
              refine z_iconst G dX3_alone_32 rfl (v := 1) (by decide) ?_
              refine z_iload_n G dX3_alone_33 rfl rfl rfl ?_
              refine z_ishl G dX3_alone_34 rfl ?_
              refine z_goto G dX3_alone_35 (tgt := 39) (by decide) ?_
              refine z_ior G dX3_alone_39 rfl ?_
              refine z_istore_n G dX3_alone_40 rfl (i := 1) rfl (by decide) (zcat_s rfl) (show Z 41 [_, _, _] _ _ _ _ from ?_)
              refine z_iinc G dX3_alone_41 rfl rfl (nI_1 _) (by decide) (zcat_s rfl) (show Z 44 [_, _, _] _ _ _ _ from ?_)
              refine z_goto G dX3_alone_44 (tgt := 9) (by decide) ?_
              exact ih (i + 1) _ (by omega) (by rw [hv]; simp [r_aln, c_12, c_12n, c_12N, c_21, c_21b, c_29, c_29b])
    exact L9 8 0 0 rfl rfl
def T_X3_needed : List Value → Hp → (Res → Hp → Prop) → Prop := fun av g K => ∃ (A : Nat → Nat) (S : Nat → Int32) (F : Nat → Nat → Int32) (w : Nat → Int32) (g0 : Hp) (nb : Nat), mok A ∧ g = mdl A S F w g0 ∧ av = [.ref (A 0)] ∧ w 3 = nI nb ∧ nb ≤ 10 ∧ (∀ k, k < nb → w (12 + k) = nI (bnN w k) ∧ bnN w k < 10) ∧ K (.inl (some (.int (r_ned w nb)))) (mdl A (upd S 0 0) F w g0)
theorem C_X3_needed {l : Launch} {s0 : State} (h0 : St0 l s0) : Ctr l s0 yX3_needed (ws_ yX3_needed cX3_needed 3 (Option.some Jvm.ClassFile.FieldType.int)) 3 0 0 T_X3_needed := by
  refine ctr_of h0 (by decide) ?_ ?_
  · rintro av g K ⟨A, S, F, w, g0, nb, hA, rfl, rfl, hp0, hp1, hp2, hK⟩
    exact Nat.le_of_ble_eq_true rfl
  · rintro Z X av g K G ⟨A, S, F, w, g0, nb, hA, rfl, rfl, hp0, hp1, hp2, hK⟩
    show Z 0 [some (.ref (A 0)), none, none] [] _ _ _
    refine z_aload_n G dX3_needed_0 rfl rfl rfl ?_
    refine z_iconst G dX3_needed_1 rfl (v := 0) (by decide) ?_
    refine mz_put G hA dX3_needed_2 rfl (j := 0) fl_X3_42_2p rfl rfl (by decide) rfl ?_
    refine z_iconst G dX3_needed_5 rfl (v := 0) (by decide) ?_
    refine z_istore_n G dX3_needed_6 rfl (i := 1) rfl (by decide) (zcat_s rfl) (show Z 7 [_, _, _] _ _ _ _ from ?_)
    refine z_iconst G dX3_needed_7 rfl (v := 0) (by decide) ?_
    refine z_istore_n G dX3_needed_8 rfl (i := 2) rfl (by decide) (zcat_s rfl) (show Z 9 [_, _, _] _ _ _ _ from ?_)
    have L9 : ∀ (n i : Nat) (v : Int32), i + n = nb → v = r_ned w i → Z 9 [some (.ref (A 0)), some (.int v), some (.int (nI i))] [] (mdl A (upd S 0 0) F w g0) 0 0 := by
      intro n
      induction n with
      | zero =>
        intro i v hi hv
        refine z_iload_n G dX3_needed_9 rfl rfl rfl ?_
        refine z_aload_n G dX3_needed_10 rfl rfl rfl ?_
        refine mz_get G hA dX3_needed_11 rfl (j := 7) fl_X3_16_2 rfl ?_
        refine z_iconst G dX3_needed_14 rfl (v := 3) (by decide) ?_
        refine mz_wldN G hA dX3_needed_15 rfl (3) rfl (by decide) (nb) hp0 ?_
        refine z_icmp_ge G dX3_needed_16 rfl (tgt := 41) (by decide) (fun c_16 => ?_) (fun c_16 => ?_)
        · have c_16n := Int32.not_lt.mpr c_16
          have c_16N := (nI_leI (a := nb) (b := i) (by omega) (by omega)).mp c_16
          obtain rfl : i = nb := by omega
          subst hv
          refine z_iload_n G dX3_needed_41 rfl rfl rfl ?_
          exact z_iret G dX3_needed_42 rfl rfl (hK)
        · exact absurd ((not_congr <| nI_leI (a := nb) (b := i) (by omega) (by omega)).mp c_16) (by omega)
      | succ n ih =>
        intro i v hi hv
        obtain ⟨q1, q2⟩ := hp2 i (by omega)
        refine z_iload_n G dX3_needed_9 rfl rfl rfl ?_
        refine z_aload_n G dX3_needed_10 rfl rfl rfl ?_
        refine mz_get G hA dX3_needed_11 rfl (j := 7) fl_X3_16_2 rfl ?_
        refine z_iconst G dX3_needed_14 rfl (v := 3) (by decide) ?_
        refine mz_wldN G hA dX3_needed_15 rfl (3) rfl (by decide) (nb) hp0 ?_
        refine z_icmp_ge G dX3_needed_16 rfl (tgt := 41) (by decide) (fun c_16 => ?_) (fun c_16 => ?_)
        · exact absurd ((nI_leI (a := nb) (b := i) (by omega) (by omega)).mp c_16) (by omega)
        · have c_16n := Int32.not_le.mp c_16
          have c_16N := (not_congr <| nI_leI (a := nb) (b := i) (by omega) (by omega)).mp c_16
          refine z_iload_n G dX3_needed_19 rfl rfl rfl ?_
          refine z_aload_n G dX3_needed_20 rfl rfl rfl ?_
          refine z_aload_n G dX3_needed_21 rfl rfl rfl ?_
          refine mz_get G hA dX3_needed_22 rfl (j := 7) fl_X3_16_2 rfl ?_
          refine z_bipush G dX3_needed_25 rfl (v := 12) (by decide) ?_
          refine z_iload_n G dX3_needed_27 rfl rfl rfl ?_
          refine z_iaddN G (12) (i) rfl rfl dX3_needed_28 rfl ?_
          refine mz_wldN G hA dX3_needed_29 rfl (12 + i) rfl (by omega) ((bnN w i)) q1 ?_
          refine z_V G dX3_needed_30 rfl m_X3_lumpsOf q2747 (C_X3_lumpsOf h0) (by decide) (As := [_]) rfl rfl (Nat.le_of_ble_eq_true rfl) (Nat.zero_le _) (Nat.zero_le _) (mhas hA) (⟨_, _, _, _, _, _, hA, rfl, rfl, (by first | assumption | decide | omega), ?_⟩)
          refine z_iadd G dX3_needed_33 rfl ?_
          refine z_istore_n G dX3_needed_34 rfl (i := 1) rfl (by decide) (zcat_s rfl) (show Z 35 [_, _, _] _ _ _ _ from ?_)
          refine z_iinc G dX3_needed_35 rfl rfl (nI_1 _) (by decide) (zcat_s rfl) (show Z 38 [_, _, _] _ _ _ _ from ?_)
          refine z_goto G dX3_needed_38 (tgt := 9) (by decide) ?_
          exact ih (i + 1) _ (by omega) (by rw [hv]; rfl)
    exact L9 nb 0 0 (by omega) rfl
def T_X3_mendable : List Value → Hp → (Res → Hp → Prop) → Prop := fun av g K => ∃ (A : Nat → Nat) (S : Nat → Int32) (F : Nat → Nat → Int32) (w : Nat → Int32) (g0 : Hp) (np : Nat), mok A ∧ g = mdl A S F w g0 ∧ av = [.ref (A 0)] ∧ w 2 = nI np ∧ np ≤ 10 ∧ (∀ p, p < np → pw w p 0 = nI (stN w p) ∧ stN w p ≤ 40) ∧ K (.inl (some (.int (r_mdb w np)))) (mdl A (m_mdS (upd S 0 0) w np) F w g0)
theorem C_X3_mendable {l : Launch} {s0 : State} (h0 : St0 l s0) : Ctr l s0 yX3_mendable (ws_ yX3_mendable cX3_mendable 3 (Option.some Jvm.ClassFile.FieldType.int)) 4 0 0 T_X3_mendable := by
  refine ctr_of h0 (by decide) ?_ ?_
  · rintro av g K ⟨A, S, F, w, g0, np, hA, rfl, rfl, hp0, hp1, hp2, hK⟩
    exact Nat.le_of_ble_eq_true rfl
  · rintro Z X av g K G ⟨A, S, F, w, g0, np, hA, rfl, rfl, hp0, hp1, hp2, hK⟩
    show Z 0 [some (.ref (A 0)), none, none] [] _ _ _
    refine z_aload_n G dX3_mendable_0 rfl rfl rfl ?_
    refine z_iconst G dX3_mendable_1 rfl (v := 0) (by decide) ?_
    refine mz_put G hA dX3_mendable_2 rfl (j := 0) fl_X3_42_2p rfl rfl (by decide) rfl ?_
    refine z_iconst G dX3_mendable_5 rfl (v := 0) (by decide) ?_
    refine z_istore_n G dX3_mendable_6 rfl (i := 1) rfl (by decide) (zcat_s rfl) (show Z 7 [_, _, _] _ _ _ _ from ?_)
    refine z_iconst G dX3_mendable_7 rfl (v := 0) (by decide) ?_
    refine z_istore_n G dX3_mendable_8 rfl (i := 2) rfl (by decide) (zcat_s rfl) (show Z 9 [_, _, _] _ _ _ _ from ?_)
    have L9 : ∀ (n i : Nat) (v : Int32) (S' : Nat → Int32), i + n = np → v = r_mdb w i → S' = m_mdS (upd S 0 0) w i → Z 9 [some (.ref (A 0)), some (.int v), some (.int (nI i))] [] (mdl A S' F w g0) 0 0 := by
      intro n
      induction n with
      | zero =>
        intro i v S' hi hv hS
        refine z_iload_n G dX3_mendable_9 rfl rfl rfl ?_
        refine z_aload_n G dX3_mendable_10 rfl rfl rfl ?_
        refine mz_get G hA dX3_mendable_11 rfl (j := 7) fl_X3_16_2 rfl ?_
        refine z_iconst G dX3_mendable_14 rfl (v := 2) (by decide) ?_
        refine mz_wldN G hA dX3_mendable_15 rfl (2) rfl (by decide) (np) hp0 ?_
        refine z_icmp_ge G dX3_mendable_16 rfl (tgt := 43) (by decide) (fun c_16 => ?_) (fun c_16 => ?_)
        · have c_16n := Int32.not_lt.mpr c_16
          have c_16N := (nI_leI (a := np) (b := i) (by omega) (by omega)).mp c_16
          obtain rfl : i = np := by omega
          subst hv hS
          refine z_iload_n G dX3_mendable_43 rfl rfl rfl ?_
          exact z_iret G dX3_mendable_44 rfl rfl (hK)
        · exact absurd ((not_congr <| nI_leI (a := np) (b := i) (by omega) (by omega)).mp c_16) (by omega)
      | succ n ih =>
        intro i v S' hi hv hS
        obtain ⟨q1, q2⟩ := hp2 i (by omega)
        refine z_iload_n G dX3_mendable_9 rfl rfl rfl ?_
        refine z_aload_n G dX3_mendable_10 rfl rfl rfl ?_
        refine mz_get G hA dX3_mendable_11 rfl (j := 7) fl_X3_16_2 rfl ?_
        refine z_iconst G dX3_mendable_14 rfl (v := 2) (by decide) ?_
        refine mz_wldN G hA dX3_mendable_15 rfl (2) rfl (by decide) (np) hp0 ?_
        refine z_icmp_ge G dX3_mendable_16 rfl (tgt := 43) (by decide) (fun c_16 => ?_) (fun c_16 => ?_)
        · exact absurd ((nI_leI (a := np) (b := i) (by omega) (by omega)).mp c_16) (by omega)
        · have c_16n := Int32.not_le.mp c_16
          have c_16N := (not_congr <| nI_leI (a := np) (b := i) (by omega) (by omega)).mp c_16
          refine z_iload_n G dX3_mendable_19 rfl rfl rfl ?_
          refine z_aload_n G dX3_mendable_20 rfl rfl rfl ?_
          refine z_iload_n G dX3_mendable_21 rfl rfl rfl ?_
          refine z_V G dX3_mendable_22 rfl m_X3_notMended q2819 (C_X3_notMended h0) (by decide) (As := [_]) rfl rfl (Nat.le_of_ble_eq_true rfl) (Nat.zero_le _) (Nat.zero_le _) (mhas hA) (⟨_, _, _, _, _, _, _, hA, rfl, rfl, (by first | assumption | decide | omega), (by first | assumption | decide | omega), (by first | assumption | decide | omega), ?_⟩)
          refine z_if_ne G dX3_mendable_25 rfl (tgt := 34) (by decide) (fun c_25 => ?_) (fun c_25 => ?_)
          · obtain ⟨y, ho⟩ := nrv_n c_25
            refine z_iconst G dX3_mendable_34 rfl (v := 0) (by decide) ?_
            refine z_ior G dX3_mendable_35 rfl ?_
            refine z_istore_n G dX3_mendable_36 rfl (i := 1) rfl (by decide) (zcat_s rfl) (show Z 37 [_, _, _] _ _ _ _ from ?_)
            refine z_iinc G dX3_mendable_37 rfl rfl (nI_1 _) (by decide) (zcat_s rfl) (show Z 40 [_, _, _] _ _ _ _ from ?_)
            refine z_goto G dX3_mendable_40 (tgt := 9) (by decide) ?_
            exact ih (i + 1) _ _ (by omega) (by rw [hv]; simp [r_mdb, ho]) (by rw [hS]; rfl)
          · have ho := nrv_0 c_25
            refine z_iconst G dX3_mendable_28 rfl (v := 1) (by decide) ?_
            refine z_iload_n G dX3_mendable_29 rfl rfl rfl ?_
            refine z_ishl G dX3_mendable_30 rfl ?_
            refine z_goto G dX3_mendable_31 (tgt := 35) (by decide) ?_
            refine z_ior G dX3_mendable_35 rfl ?_
            refine z_istore_n G dX3_mendable_36 rfl (i := 1) rfl (by decide) (zcat_s rfl) (show Z 37 [_, _, _] _ _ _ _ from ?_)
            refine z_iinc G dX3_mendable_37 rfl rfl (nI_1 _) (by decide) (zcat_s rfl) (show Z 40 [_, _, _] _ _ _ _ from ?_)
            refine z_goto G dX3_mendable_40 (tgt := 9) (by decide) ?_
            exact ih (i + 1) _ _ (by omega) (by rw [hv]; simp [r_mdb, ho]) (by rw [hS]; rfl)
    exact L9 np 0 0 _ (by omega) rfl rfl
def T_X3_longest : List Value → Hp → (Res → Hp → Prop) → Prop := fun av g K => ∃ (A : Nat → Nat) (S : Nat → Int32) (F : Nat → Nat → Int32) (w : Nat → Int32) (g0 : Hp) , mok A ∧ g = mdl A S F w g0 ∧ av = [.ref (A 0)] ∧ K (.inl (some (.int (q_lng w).2))) (mdl A (upd S 0 (q_lng w).1) F w g0)
theorem C_X3_longest {l : Launch} {s0 : State} (h0 : St0 l s0) : Ctr l s0 yX3_longest (ws_ yX3_longest cX3_longest 1 (Option.some Jvm.ClassFile.FieldType.int)) 2 0 0 T_X3_longest := by
  refine ctr_of h0 (by decide) ?_ ?_
  · rintro av g K ⟨A, S, F, w, g0, hA, rfl, rfl, hK⟩
    exact Nat.le_of_ble_eq_true rfl
  · rintro Z X av g K G ⟨A, S, F, w, g0, hA, rfl, rfl, hK⟩
    show Z 0 [some (.ref (A 0))] [] _ _ _
    have hl := lng_le w 6
    refine z_aload_n G dX3_longest_0 rfl rfl rfl ?_
    refine z_iconst G dX3_longest_1 rfl (v := 0) (by decide) ?_
    refine mz_put G hA dX3_longest_2 rfl (j := 0) fl_X3_42_2p rfl rfl (by decide) rfl ?_
    refine z_aload_n G dX3_longest_5 rfl rfl rfl ?_
    refine z_V G dX3_longest_6 rfl m_X3_longestNow q2827 (C_X3_longestNow h0) (by decide) (As := []) rfl rfl (Nat.le_of_ble_eq_true rfl) (Nat.zero_le _) (Nat.zero_le _) (mhas hA) (⟨_, _, _, _, _, hA, rfl, rfl, ?_⟩)
    refine z_if_ne G dX3_longest_9 rfl (tgt := 20) (by decide) (fun c_9 => ?_) (fun c_9 => ?_)
    · have c_9N := (not_congr <| nI_eq (a := (r_lng w 6)) (b := 0) (by omega) (by omega)).mp c_9
      refine z_aload_n G dX3_longest_20 rfl rfl rfl ?_
      refine z_V G dX3_longest_21 rfl m_X3_longestNow q2827 (C_X3_longestNow h0) (by decide) (As := []) rfl rfl (Nat.le_of_ble_eq_true rfl) (Nat.zero_le _) (Nat.zero_le _) (mhas hA) (⟨_, _, _, _, _, hA, rfl, rfl, ?_⟩)
      exact z_iret G dX3_longest_24 rfl rfl (by first | (rw [upd_upd]; simpa [q_lng, isP, bI, c_9, c_9N] using hK) | simpa [q_lng, isP, bI, c_9, c_9N] using hK)
    · have c_9N := (nI_eq (a := (r_lng w 6)) (b := 0) (by omega) (by omega)).mp c_9
      refine z_aload_n G dX3_longest_12 rfl rfl rfl ?_
      refine z_iconst G dX3_longest_13 rfl (v := 1) (by decide) ?_
      refine z_V G dX3_longest_14 rfl m_X3_fails q2683 (C_X3_fails h0) (by decide) (As := [_]) rfl rfl (Nat.le_of_ble_eq_true rfl) (Nat.zero_le _) (Nat.zero_le _) (mhas hA) (⟨_, _, _, _, _, _, hA, rfl, rfl, ?_⟩)
      refine z_goto G dX3_longest_17 (tgt := 24) (by decide) ?_
      exact z_iret G dX3_longest_24 rfl rfl (by first | (rw [upd_upd]; simpa [q_lng, isP, bI, c_9, c_9N] using hK) | simpa [q_lng, isP, bI, c_9, c_9N] using hK)
def T_X3_sits : List Value → Hp → (Res → Hp → Prop) → Prop := fun av g K => ∃ (A : Nat → Nat) (S : Nat → Int32) (F : Nat → Nat → Int32) (w : Nat → Int32) (g0 : Hp) (p : Int32), mok A ∧ g = mdl A S F w g0 ∧ av = [.ref (A 0), .int p] ∧ K (.inl (some (.int (q_sits w p).2))) (mdl A (upd S 0 (q_sits w p).1) F w g0)
theorem C_X3_sits {l : Launch} {s0 : State} (h0 : St0 l s0) : Ctr l s0 yX3_sits (ws_ yX3_sits cX3_sits 2 (Option.some Jvm.ClassFile.FieldType.boolean)) 3 0 0 T_X3_sits := by
  refine ctr_of h0 (by decide) ?_ ?_
  · rintro av g K ⟨A, S, F, w, g0, p, hA, rfl, rfl, hK⟩
    exact Nat.le_of_ble_eq_true rfl
  · rintro Z X av g K G ⟨A, S, F, w, g0, p, hA, rfl, rfl, hK⟩
    show Z 0 [some (.ref (A 0)), some (.int p)] [] _ _ _
    refine z_aload_n G dX3_sits_0 rfl rfl rfl ?_
    refine z_iconst G dX3_sits_1 rfl (v := 0) (by decide) ?_
    refine mz_put G hA dX3_sits_2 rfl (j := 0) fl_X3_42_2p rfl rfl (by decide) rfl ?_
    refine z_iload_n G dX3_sits_5 rfl rfl rfl ?_
    refine z_S G dX3_sits_6 rfl m_X3_isPerch q2898 (C_X3_isPerch h0) (by decide) (As := [_]) rfl rfl (Nat.le_of_ble_eq_true rfl) (Nat.zero_le _) (Nat.zero_le _) (⟨_, rfl, ?_⟩)
    refine z_if_eq G dX3_sits_9 rfl (tgt := 20) (by decide) (fun c_9 => ?_) (fun c_9 => ?_)
    · have c_9b := bI_f c_9
      refine z_aload_n G dX3_sits_20 rfl rfl rfl ?_
      refine z_iconst G dX3_sits_21 rfl (v := 1) (by decide) ?_
      refine z_V G dX3_sits_22 rfl m_X3_fails q2683 (C_X3_fails h0) (by decide) (As := [_]) rfl rfl (Nat.le_of_ble_eq_true rfl) (Nat.zero_le _) (Nat.zero_le _) (mhas hA) (⟨_, _, _, _, _, _, hA, rfl, rfl, ?_⟩)
      refine z_if_le G dX3_sits_25 rfl (tgt := 32) (by decide) (fun c_25 => ?_) (fun c_25 => ?_)
      · have c_25n := Int32.not_lt.mpr c_25
        refine z_iconst G dX3_sits_32 rfl (v := 0) (by decide) ?_
        exact z_iret G dX3_sits_33 rfl (by first | rfl | exact bI_nar _) (by first | (rw [upd_upd]; simpa [q_sits, isP, bI, c_9, c_9b, c_25, c_25n] using hK) | simpa [q_sits, isP, bI, c_9, c_9b, c_25, c_25n] using hK)
      · exact absurd (by decide) c_25
    · have c_9b := bI_t c_9
      refine z_aload_n G dX3_sits_12 rfl rfl rfl ?_
      refine z_iload_n G dX3_sits_13 rfl rfl rfl ?_
      refine z_V G dX3_sits_14 rfl m_X3_isTaken q2901 (C_X3_isTaken h0) (by decide) (As := [_]) rfl rfl (Nat.le_of_ble_eq_true rfl) (Nat.zero_le _) (Nat.zero_le _) (mhas hA) (⟨_, _, _, _, _, _, hA, rfl, rfl, ?_⟩)
      refine z_goto G dX3_sits_17 (tgt := 33) (by decide) ?_
      exact z_iret G dX3_sits_33 rfl (by first | rfl | exact bI_nar _) (by first | (rw [upd_upd]; simpa [q_sits, isP, bI, c_9, c_9b] using hK) | simpa [q_sits, isP, bI, c_9, c_9b] using hK)
def T_X3_perches : List Value → Hp → (Res → Hp → Prop) → Prop := fun av g K => ∃ (A : Nat → Nat) (S : Nat → Int32) (F : Nat → Nat → Int32) (w : Nat → Int32) (g0 : Hp) , mok A ∧ g = mdl A S F w g0 ∧ av = [.ref (A 0)] ∧ K (.inl (some (.int (w 11)))) (mdl A (upd S 0 0) F w g0)
theorem C_X3_perches {l : Launch} {s0 : State} (h0 : St0 l s0) : Ctr l s0 yX3_perches (ws_ yX3_perches cX3_perches 1 (Option.some Jvm.ClassFile.FieldType.int)) 1 0 0 T_X3_perches := by
  refine ctr_of h0 (by decide) ?_ ?_
  · rintro av g K ⟨A, S, F, w, g0, hA, rfl, rfl, hK⟩
    exact Nat.le_of_ble_eq_true rfl
  · rintro Z X av g K G ⟨A, S, F, w, g0, hA, rfl, rfl, hK⟩
    show Z 0 [some (.ref (A 0))] [] _ _ _
    refine z_aload_n G dX3_perches_0 rfl rfl rfl ?_
    refine z_iconst G dX3_perches_1 rfl (v := 0) (by decide) ?_
    refine mz_put G hA dX3_perches_2 rfl (j := 0) fl_X3_42_2p rfl rfl (by decide) rfl ?_
    refine z_aload_n G dX3_perches_5 rfl rfl rfl ?_
    refine mz_get G hA dX3_perches_6 rfl (j := 7) fl_X3_16_2 rfl ?_
    refine z_bipush G dX3_perches_9 rfl (v := 11) (by decide) ?_
    refine mz_wld G hA dX3_perches_11 rfl (11) rfl (by decide) ?_
    exact z_iret G dX3_perches_12 rfl rfl (hK)
def T_X3_nextPerch : List Value → Hp → (Res → Hp → Prop) → Prop := fun av g K => ∃ (A : Nat → Nat) (S : Nat → Int32) (F : Nat → Nat → Int32) (w : Nat → Int32) (g0 : Hp) (p : Int32) (pn : Nat), mok A ∧ g = mdl A S F w g0 ∧ av = [.ref (A 0), .int p] ∧ (btw p 0 7 = true → p = nI pn ∧ pn < 8) ∧ (btw p 0 7 = true → ¬ r_par w 8 = 8 → r_fre w ((pn + 1) % 8) 8) ∧ K (.inl (some (.int (q_nxt w p pn).2))) (mdl A (upd S 0 (q_nxt w p pn).1) F w g0)
theorem C_X3_nextPerch {l : Launch} {s0 : State} (h0 : St0 l s0) : Ctr l s0 yX3_nextPerch (ws_ yX3_nextPerch cX3_nextPerch 2 (Option.some Jvm.ClassFile.FieldType.int)) 3 0 0 T_X3_nextPerch := by
  refine ctr_of h0 (by decide) ?_ ?_
  · rintro av g K ⟨A, S, F, w, g0, p, pn, hA, rfl, rfl, hp0, hp1, hK⟩
    exact Nat.le_of_ble_eq_true rfl
  · rintro Z X av g K G ⟨A, S, F, w, g0, p, pn, hA, rfl, rfl, hp0, hp1, hK⟩
    show Z 0 [some (.ref (A 0)), some (.int p)] [] _ _ _
    have hpar := par_le w 8
    refine z_aload_n G dX3_nextPerch_0 rfl rfl rfl ?_
    refine z_iconst G dX3_nextPerch_1 rfl (v := 0) (by decide) ?_
    refine mz_put G hA dX3_nextPerch_2 rfl (j := 0) fl_X3_42_2p rfl rfl (by decide) rfl ?_
    refine z_iload_n G dX3_nextPerch_5 rfl rfl rfl ?_
    refine z_S G dX3_nextPerch_6 rfl m_X3_isPerch q2898 (C_X3_isPerch h0) (by decide) (As := [_]) rfl rfl (Nat.le_of_ble_eq_true rfl) (Nat.zero_le _) (Nat.zero_le _) (⟨_, rfl, ?_⟩)
    refine z_if_ne G dX3_nextPerch_9 rfl (tgt := 18) (by decide) (fun c_9 => ?_) (fun c_9 => ?_)
    · have c_9b := bI_t c_9
      have hq1 := hp1 c_9b
      obtain ⟨rfl, hq⟩ := hp0 c_9b
      refine z_aload_n G dX3_nextPerch_18 rfl rfl rfl ?_
      refine z_V G dX3_nextPerch_19 rfl m_X3_parrots q2905 (C_X3_parrots h0) (by decide) (As := []) rfl rfl (Nat.le_of_ble_eq_true rfl) (Nat.zero_le _) (Nat.zero_le _) (mhas hA) (⟨_, _, _, _, _, hA, rfl, rfl, ?_⟩)
      refine z_bipush G dX3_nextPerch_22 rfl (v := 8) (by decide) ?_
      refine z_icmp_ne G dX3_nextPerch_24 rfl (tgt := 35) (by decide) (fun c_24 => ?_) (fun c_24 => ?_)
      · have c_24N := (not_congr <| nI_eq (a := (r_par w 8)) (b := 8) (by omega) (by omega)).mp c_24
        have hq2 := hq1 c_24N
        refine z_aload_n G dX3_nextPerch_35 rfl rfl rfl ?_
        refine z_iload_n G dX3_nextPerch_36 rfl rfl rfl ?_
        refine z_V G dX3_nextPerch_37 rfl m_X3_nextFree q2921 (C_X3_nextFree h0) (by decide) (As := [_]) rfl rfl (Nat.le_of_ble_eq_true rfl) (Nat.zero_le _) (Nat.zero_le _) (mhas hA) (⟨_, _, _, _, _, _, hA, rfl, rfl, (by first | assumption | decide | omega), (by first | assumption | decide | omega), ?_⟩)
        exact z_iret G dX3_nextPerch_40 rfl rfl (by first | (rw [upd_upd]; simpa [q_nxt, isP, bI, c_9, c_9b, c_24, c_24N] using hK) | simpa [q_nxt, isP, bI, c_9, c_9b, c_24, c_24N] using hK)
      · have c_24N := (nI_eq (a := (r_par w 8)) (b := 8) (by omega) (by omega)).mp c_24
        refine z_aload_n G dX3_nextPerch_27 rfl rfl rfl ?_
        refine z_iconst G dX3_nextPerch_28 rfl (v := 2) (by decide) ?_
        refine z_V G dX3_nextPerch_29 rfl m_X3_fails q2683 (C_X3_fails h0) (by decide) (As := [_]) rfl rfl (Nat.le_of_ble_eq_true rfl) (Nat.zero_le _) (Nat.zero_le _) (mhas hA) (⟨_, _, _, _, _, _, hA, rfl, rfl, ?_⟩)
        refine z_goto G dX3_nextPerch_32 (tgt := 40) (by decide) ?_
        exact z_iret G dX3_nextPerch_40 rfl rfl (by first | (rw [upd_upd]; simpa [q_nxt, isP, bI, c_9, c_9b, c_24, c_24N] using hK) | simpa [q_nxt, isP, bI, c_9, c_9b, c_24, c_24N] using hK)
    · have c_9b := bI_f c_9
      refine z_aload_n G dX3_nextPerch_12 rfl rfl rfl ?_
      refine z_iconst G dX3_nextPerch_13 rfl (v := 1) (by decide) ?_
      refine z_V G dX3_nextPerch_14 rfl m_X3_fails q2683 (C_X3_fails h0) (by decide) (As := [_]) rfl rfl (Nat.le_of_ble_eq_true rfl) (Nat.zero_le _) (Nat.zero_le _) (mhas hA) (⟨_, _, _, _, _, _, hA, rfl, rfl, ?_⟩)
      exact z_iret G dX3_nextPerch_17 rfl rfl (by first | (rw [upd_upd]; simpa [q_nxt, isP, bI, c_9, c_9b] using hK) | simpa [q_nxt, isP, bI, c_9, c_9b] using hK)
def T_X3_quarrels : List Value → Hp → (Res → Hp → Prop) → Prop := fun av g K => ∃ (A : Nat → Nat) (S : Nat → Int32) (F : Nat → Nat → Int32) (w : Nat → Int32) (g0 : Hp) , mok A ∧ g = mdl A S F w g0 ∧ av = [.ref (A 0)] ∧ K (.inl (some (.int (nI (r_prs w 7))))) (mdl A (upd S 0 0) F w g0)
theorem C_X3_quarrels {l : Launch} {s0 : State} (h0 : St0 l s0) : Ctr l s0 yX3_quarrels (ws_ yX3_quarrels cX3_quarrels 1 (Option.some Jvm.ClassFile.FieldType.int)) 3 0 0 T_X3_quarrels := by
  refine ctr_of h0 (by decide) ?_ ?_
  · rintro av g K ⟨A, S, F, w, g0, hA, rfl, rfl, hK⟩
    exact Nat.le_of_ble_eq_true rfl
  · rintro Z X av g K G ⟨A, S, F, w, g0, hA, rfl, rfl, hK⟩
    show Z 0 [some (.ref (A 0))] [] _ _ _
    refine z_aload_n G dX3_quarrels_0 rfl rfl rfl ?_
    refine z_iconst G dX3_quarrels_1 rfl (v := 0) (by decide) ?_
    refine mz_put G hA dX3_quarrels_2 rfl (j := 0) fl_X3_42_2p rfl rfl (by decide) rfl ?_
    refine z_aload_n G dX3_quarrels_5 rfl rfl rfl ?_
    refine z_V G dX3_quarrels_6 rfl m_X3_pairs q2945 (C_X3_pairs h0) (by decide) (As := []) rfl rfl (Nat.le_of_ble_eq_true rfl) (Nat.zero_le _) (Nat.zero_le _) (mhas hA) (⟨_, _, _, _, _, hA, rfl, rfl, ?_⟩)
    exact z_iret G dX3_quarrels_9 rfl rfl (hK)
def T_X3_lumpsFor : List Value → Hp → (Res → Hp → Prop) → Prop := fun av g K => ∃ (A : Nat → Nat) (S : Nat → Int32) (F : Nat → Nat → Int32) (w : Nat → Int32) (g0 : Hp) (p : Int32) (pn : Nat), mok A ∧ g = mdl A S F w g0 ∧ av = [.ref (A 0), .int p] ∧ (isP w p = true → p = nI pn ∧ pn < 10) ∧ K (.inl (some (.int (q_lum w p pn).2))) (mdl A (upd S 0 (q_lum w p pn).1) F w g0)
theorem C_X3_lumpsFor {l : Launch} {s0 : State} (h0 : St0 l s0) : Ctr l s0 yX3_lumpsFor (ws_ yX3_lumpsFor cX3_lumpsFor 2 (Option.some Jvm.ClassFile.FieldType.int)) 3 0 0 T_X3_lumpsFor := by
  refine ctr_of h0 (by decide) ?_ ?_
  · rintro av g K ⟨A, S, F, w, g0, p, pn, hA, rfl, rfl, hp0, hK⟩
    exact Nat.le_of_ble_eq_true rfl
  · rintro Z X av g K G ⟨A, S, F, w, g0, p, pn, hA, rfl, rfl, hp0, hK⟩
    show Z 0 [some (.ref (A 0)), some (.int p)] [] _ _ _
    refine z_aload_n G dX3_lumpsFor_0 rfl rfl rfl ?_
    refine z_iconst G dX3_lumpsFor_1 rfl (v := 0) (by decide) ?_
    refine mz_put G hA dX3_lumpsFor_2 rfl (j := 0) fl_X3_42_2p rfl rfl (by decide) rfl ?_
    refine z_aload_n G dX3_lumpsFor_5 rfl rfl rfl ?_
    refine z_iload_n G dX3_lumpsFor_6 rfl rfl rfl ?_
    refine z_V G dX3_lumpsFor_7 rfl m_X3_isPipe q2711 (C_X3_isPipe h0) (by decide) (As := [_]) rfl rfl (Nat.le_of_ble_eq_true rfl) (Nat.zero_le _) (Nat.zero_le _) (mhas hA) (⟨_, _, _, _, _, _, hA, rfl, rfl, ?_⟩)
    refine z_if_eq G dX3_lumpsFor_10 rfl (tgt := 21) (by decide) (fun c_10 => ?_) (fun c_10 => ?_)
    · have c_10b := bI_f c_10
      refine z_aload_n G dX3_lumpsFor_21 rfl rfl rfl ?_
      refine z_iconst G dX3_lumpsFor_22 rfl (v := 1) (by decide) ?_
      refine z_V G dX3_lumpsFor_23 rfl m_X3_fails q2683 (C_X3_fails h0) (by decide) (As := [_]) rfl rfl (Nat.le_of_ble_eq_true rfl) (Nat.zero_le _) (Nat.zero_le _) (mhas hA) (⟨_, _, _, _, _, _, hA, rfl, rfl, ?_⟩)
      exact z_iret G dX3_lumpsFor_26 rfl rfl (by first | (rw [upd_upd]; simpa [q_lum, isP, bI, c_10, c_10b] using hK) | simpa [q_lum, isP, bI, c_10, c_10b] using hK)
    · have c_10b := bI_t c_10
      obtain ⟨rfl, hq⟩ := hp0 c_10b
      refine z_aload_n G dX3_lumpsFor_13 rfl rfl rfl ?_
      refine z_iload_n G dX3_lumpsFor_14 rfl rfl rfl ?_
      refine z_V G dX3_lumpsFor_15 rfl m_X3_lumpsOf q2747 (C_X3_lumpsOf h0) (by decide) (As := [_]) rfl rfl (Nat.le_of_ble_eq_true rfl) (Nat.zero_le _) (Nat.zero_le _) (mhas hA) (⟨_, _, _, _, _, _, hA, rfl, rfl, (by first | assumption | decide | omega), ?_⟩)
      refine z_goto G dX3_lumpsFor_18 (tgt := 26) (by decide) ?_
      exact z_iret G dX3_lumpsFor_26 rfl rfl (by first | (rw [upd_upd]; simpa [q_lum, isP, bI, c_10, c_10b] using hK) | simpa [q_lum, isP, bI, c_10, c_10b] using hK)
def T_X3_pieceFor : List Value → Hp → (Res → Hp → Prop) → Prop := fun av g K => ∃ (A : Nat → Nat) (S : Nat → Int32) (F : Nat → Nat → Int32) (w : Nat → Int32) (g0 : Hp) (p : Int32) (pn : Nat), mok A ∧ g = mdl A S F w g0 ∧ av = [.ref (A 0), .int p] ∧ (isP w p = true → p = nI pn ∧ pn < 10) ∧ (isP w p = true → pw w pn 0 = nI (stN w pn) ∧ stN w pn ≤ 40) ∧ K (.inl (some (.int (q_pfor w p pn).2))) (mdl A (upd S 0 (q_pfor w p pn).1) F w g0)
theorem C_X3_pieceFor {l : Launch} {s0 : State} (h0 : St0 l s0) : Ctr l s0 yX3_pieceFor (ws_ yX3_pieceFor cX3_pieceFor 2 (Option.some Jvm.ClassFile.FieldType.int)) 3 0 0 T_X3_pieceFor := by
  refine ctr_of h0 (by decide) ?_ ?_
  · rintro av g K ⟨A, S, F, w, g0, p, pn, hA, rfl, rfl, hp0, hp1, hK⟩
    exact Nat.le_of_ble_eq_true rfl
  · rintro Z X av g K G ⟨A, S, F, w, g0, p, pn, hA, rfl, rfl, hp0, hp1, hK⟩
    show Z 0 [some (.ref (A 0)), some (.int p)] [] _ _ _
    refine z_aload_n G dX3_pieceFor_0 rfl rfl rfl ?_
    refine z_iconst G dX3_pieceFor_1 rfl (v := 0) (by decide) ?_
    refine mz_put G hA dX3_pieceFor_2 rfl (j := 0) fl_X3_42_2p rfl rfl (by decide) rfl ?_
    refine z_aload_n G dX3_pieceFor_5 rfl rfl rfl ?_
    refine z_iload_n G dX3_pieceFor_6 rfl rfl rfl ?_
    refine z_V G dX3_pieceFor_7 rfl m_X3_isPipe q2711 (C_X3_isPipe h0) (by decide) (As := [_]) rfl rfl (Nat.le_of_ble_eq_true rfl) (Nat.zero_le _) (Nat.zero_le _) (mhas hA) (⟨_, _, _, _, _, _, hA, rfl, rfl, ?_⟩)
    refine z_if_ne G dX3_pieceFor_10 rfl (tgt := 19) (by decide) (fun c_10 => ?_) (fun c_10 => ?_)
    · have c_10b := bI_t c_10
      obtain ⟨q1, q2⟩ := hp1 c_10b
      obtain ⟨rfl, hq⟩ := hp0 c_10b
      refine z_aload_n G dX3_pieceFor_19 rfl rfl rfl ?_
      refine z_iload_n G dX3_pieceFor_20 rfl rfl rfl ?_
      refine z_V G dX3_pieceFor_21 rfl m_X3_pieceOf q2823 (C_X3_pieceOf h0) (by decide) (As := [_]) rfl rfl (Nat.le_of_ble_eq_true rfl) (Nat.zero_le _) (Nat.zero_le _) (mhas hA) (⟨_, _, _, _, _, _, _, hA, rfl, rfl, (by first | assumption | decide | omega), (by first | assumption | decide | omega), (by first | assumption | decide | omega), ?_⟩)
      refine z_if_ge G dX3_pieceFor_24 rfl (tgt := 35) (by decide) (fun c_24 => ?_) (fun c_24 => ?_)
      · have c_24n := Int32.not_lt.mpr c_24
        refine z_aload_n G dX3_pieceFor_35 rfl rfl rfl ?_
        refine z_iload_n G dX3_pieceFor_36 rfl rfl rfl ?_
        refine z_V G dX3_pieceFor_37 rfl m_X3_pieceOf q2823 (C_X3_pieceOf h0) (by decide) (As := [_]) rfl rfl (Nat.le_of_ble_eq_true rfl) (Nat.zero_le _) (Nat.zero_le _) (mhas hA) (⟨_, _, _, _, _, _, _, hA, rfl, rfl, (by first | assumption | decide | omega), (by first | assumption | decide | omega), (by first | assumption | decide | omega), ?_⟩)
        exact z_iret G dX3_pieceFor_40 rfl rfl (by first | (rw [upd_upd]; simpa [q_pfor, isP, bI, c_10, c_10b, c_24, c_24n] using hK) | simpa [q_pfor, isP, bI, c_10, c_10b, c_24, c_24n] using hK)
      · have c_24n := Int32.not_le.mp c_24
        refine z_aload_n G dX3_pieceFor_27 rfl rfl rfl ?_
        refine z_iconst G dX3_pieceFor_28 rfl (v := 2) (by decide) ?_
        refine z_V G dX3_pieceFor_29 rfl m_X3_fails q2683 (C_X3_fails h0) (by decide) (As := [_]) rfl rfl (Nat.le_of_ble_eq_true rfl) (Nat.zero_le _) (Nat.zero_le _) (mhas hA) (⟨_, _, _, _, _, _, hA, rfl, rfl, ?_⟩)
        refine z_goto G dX3_pieceFor_32 (tgt := 40) (by decide) ?_
        exact z_iret G dX3_pieceFor_40 rfl rfl (by first | (rw [upd_upd]; simpa [q_pfor, isP, bI, c_10, c_10b, c_24, c_24n] using hK) | simpa [q_pfor, isP, bI, c_10, c_10b, c_24, c_24n] using hK)
    · have c_10b := bI_f c_10
      refine z_aload_n G dX3_pieceFor_13 rfl rfl rfl ?_
      refine z_iconst G dX3_pieceFor_14 rfl (v := 1) (by decide) ?_
      refine z_V G dX3_pieceFor_15 rfl m_X3_fails q2683 (C_X3_fails h0) (by decide) (As := [_]) rfl rfl (Nat.le_of_ble_eq_true rfl) (Nat.zero_le _) (Nat.zero_le _) (mhas hA) (⟨_, _, _, _, _, _, hA, rfl, rfl, ?_⟩)
      exact z_iret G dX3_pieceFor_18 rfl rfl (by first | (rw [upd_upd]; simpa [q_pfor, isP, bI, c_10, c_10b] using hK) | simpa [q_pfor, isP, bI, c_10, c_10b] using hK)
def T_X3_freshIn : List Value → Hp → (Res → Hp → Prop) → Prop := fun av g K => ∃ (A : Nat → Nat) (S : Nat → Int32) (F : Nat → Nat → Int32) (w : Nat → Int32) (g0 : Hp) (v : Int32) (m h nl : Nat), mok A ∧ g = mdl A S F w g0 ∧ av = [.ref (A 0), .int v] ∧ w 0 = nI h ∧ h + m < 2 ^ 30 ∧ w 4 = nI nl ∧ nl ≤ 20 ∧ m ≤ 99 ∧ (btw v 0 48 = true → v = nI m) ∧ (btw v 0 48 = false → K (.inl (some (.int 0))) (mdl A (upd S 0 1) F w g0)) ∧ (btw v 0 48 = true → K (.inl (some (.int ((r_pas w m) 4)))) (mdl A (upd S 0 0) (upA F 10 (va_cpy w (F 10) 0 0 99)) w g0))
theorem C_X3_freshIn {l : Launch} {s0 : State} (h0 : St0 l s0) : Ctr l s0 yX3_freshIn (ws_ yX3_freshIn cX3_freshIn 3 (Option.some Jvm.ClassFile.FieldType.int)) 6 0 0 T_X3_freshIn := by
  refine ctr_of h0 (by decide) ?_ ?_
  · rintro av g K ⟨A, S, F, w, g0, v, m, h, nl, hA, rfl, rfl, hp0, hp1, hp2, hp3, hp4, hp5, hK0, hK1⟩
    exact Nat.le_of_ble_eq_true rfl
  · rintro Z X av g K G ⟨A, S, F, w, g0, v, m, h, nl, hA, rfl, rfl, hp0, hp1, hp2, hp3, hp4, hp5, hK0, hK1⟩
    show Z 0 [some (.ref (A 0)), some (.int v), none] [] _ _ _
    refine z_aload_n G dX3_freshIn_0 rfl rfl rfl ?_
    refine z_iconst G dX3_freshIn_1 rfl (v := 0) (by decide) ?_
    refine mz_put G hA dX3_freshIn_2 rfl (j := 0) fl_X3_42_2p rfl rfl (by decide) rfl ?_
    refine z_iload_n G dX3_freshIn_5 rfl rfl rfl ?_
    refine z_iconst G dX3_freshIn_6 rfl (v := 0) (by decide) ?_
    refine z_bipush G dX3_freshIn_7 rfl (v := 48) (by decide) ?_
    refine z_S G dX3_freshIn_9 rfl m_X3_isBetween q2668 (C_X3_isBetween h0) (by decide) (As := [_, _, _]) rfl rfl (Nat.le_of_ble_eq_true rfl) (Nat.zero_le _) (Nat.zero_le _) (⟨_, _, _, rfl, ?_⟩)
    refine z_if_ne G dX3_freshIn_12 rfl (tgt := 21) (by decide) (fun c_12 => ?_) (fun c_12 => ?_)
    · have c_12b := bI_t c_12
      have hb := c_12b
      have hq := hp5 c_12b
      subst hq
      refine z_aload_n G dX3_freshIn_21 rfl rfl rfl ?_
      refine z_V G dX3_freshIn_22 rfl m_X3_thinks q2691 (C_X3_thinks h0) (by decide) (As := []) rfl rfl (Nat.le_of_ble_eq_true rfl) (Nat.zero_le _) (Nat.zero_le _) (mhas hA) (⟨_, _, _, _, _, hA, rfl, rfl, ?_⟩)
      refine z_aload_n G dX3_freshIn_25 rfl rfl rfl ?_
      refine z_iload_n G dX3_freshIn_26 rfl rfl rfl ?_
      refine z_V G dX3_freshIn_27 rfl m_X3_passes q2933 (C_X3_passes h0) (by decide) (As := [_]) rfl rfl (Nat.le_of_ble_eq_true rfl) (Nat.zero_le _) (Nat.zero_le _) (mhas hA) (⟨_, _, _, _, _, _, _, _, hA, rfl, rfl, (by first | assumption | decide | omega), (by first | assumption | decide | omega), (by first | assumption | decide | omega), (by first | assumption | decide | omega), (by first | assumption | decide | omega), ?_⟩)
      refine z_pop G dX3_freshIn_30 rfl rfl ?_
      refine z_aload_n G dX3_freshIn_31 rfl rfl rfl ?_
      refine mz_get G hA dX3_freshIn_32 rfl (j := 7) fl_X3_16_2 rfl ?_
      refine z_iconst G dX3_freshIn_35 rfl (v := 4) (by decide) ?_
      refine mz_wld G hA dX3_freshIn_36 rfl (4) rfl (by decide) ?_
      refine z_istore_n G dX3_freshIn_37 rfl (i := 2) rfl (by decide) (zcat_s rfl) (show Z 38 [_, _, _] _ _ _ _ from ?_)
      refine z_aload_n G dX3_freshIn_38 rfl rfl rfl ?_
      refine z_V G dX3_freshIn_39 rfl m_X3_forgets q2882 (C_X3_forgets h0) (by decide) (As := []) rfl rfl (Nat.le_of_ble_eq_true rfl) (Nat.zero_le _) (Nat.zero_le _) (mhas hA) (⟨_, _, _, _, _, hA, rfl, rfl, ?_⟩)
      refine z_iload_n G dX3_freshIn_42 rfl rfl rfl ?_
      exact z_iret G dX3_freshIn_43 rfl rfl (by rw [upA_s, cpy_back (fun k hk => pass_hi hp0 hp2 hp3 hk m)]; exact hK1 hb)
    · have c_12b := bI_f c_12
      refine z_aload_n G dX3_freshIn_15 rfl rfl rfl ?_
      refine z_iconst G dX3_freshIn_16 rfl (v := 1) (by decide) ?_
      refine z_V G dX3_freshIn_17 rfl m_X3_fails q2683 (C_X3_fails h0) (by decide) (As := [_]) rfl rfl (Nat.le_of_ble_eq_true rfl) (Nat.zero_le _) (Nat.zero_le _) (mhas hA) (⟨_, _, _, _, _, _, hA, rfl, rfl, ?_⟩)
      exact z_iret G dX3_freshIn_20 rfl rfl (by rw [upd_upd]; exact hK0 c_12b)
def T_X3_piecesIn : List Value → Hp → (Res → Hp → Prop) → Prop := fun av g K => ∃ (A : Nat → Nat) (S : Nat → Int32) (F : Nat → Nat → Int32) (w : Nat → Int32) (g0 : Hp) (v : Int32) (m h nl : Nat), mok A ∧ g = mdl A S F w g0 ∧ av = [.ref (A 0), .int v] ∧ w 0 = nI h ∧ h + m < 2 ^ 30 ∧ w 4 = nI nl ∧ nl ≤ 20 ∧ m ≤ 99 ∧ (btw v 0 48 = true → v = nI m) ∧ (btw v 0 48 = false → K (.inl (some (.int 0))) (mdl A (upd S 0 1) F w g0)) ∧ (btw v 0 48 = true → K (.inl (some (.int (r_pcs (r_pas w m) 6)))) (mdl A (upd S 0 0) (upA F 10 (va_cpy w (F 10) 0 0 99)) w g0))
theorem C_X3_piecesIn {l : Launch} {s0 : State} (h0 : St0 l s0) : Ctr l s0 yX3_piecesIn (ws_ yX3_piecesIn cX3_piecesIn 3 (Option.some Jvm.ClassFile.FieldType.int)) 6 0 0 T_X3_piecesIn := by
  refine ctr_of h0 (by decide) ?_ ?_
  · rintro av g K ⟨A, S, F, w, g0, v, m, h, nl, hA, rfl, rfl, hp0, hp1, hp2, hp3, hp4, hp5, hK0, hK1⟩
    exact Nat.le_of_ble_eq_true rfl
  · rintro Z X av g K G ⟨A, S, F, w, g0, v, m, h, nl, hA, rfl, rfl, hp0, hp1, hp2, hp3, hp4, hp5, hK0, hK1⟩
    show Z 0 [some (.ref (A 0)), some (.int v), none] [] _ _ _
    refine z_aload_n G dX3_piecesIn_0 rfl rfl rfl ?_
    refine z_iconst G dX3_piecesIn_1 rfl (v := 0) (by decide) ?_
    refine mz_put G hA dX3_piecesIn_2 rfl (j := 0) fl_X3_42_2p rfl rfl (by decide) rfl ?_
    refine z_iload_n G dX3_piecesIn_5 rfl rfl rfl ?_
    refine z_iconst G dX3_piecesIn_6 rfl (v := 0) (by decide) ?_
    refine z_bipush G dX3_piecesIn_7 rfl (v := 48) (by decide) ?_
    refine z_S G dX3_piecesIn_9 rfl m_X3_isBetween q2668 (C_X3_isBetween h0) (by decide) (As := [_, _, _]) rfl rfl (Nat.le_of_ble_eq_true rfl) (Nat.zero_le _) (Nat.zero_le _) (⟨_, _, _, rfl, ?_⟩)
    refine z_if_ne G dX3_piecesIn_12 rfl (tgt := 21) (by decide) (fun c_12 => ?_) (fun c_12 => ?_)
    · have c_12b := bI_t c_12
      have hb := c_12b
      have hq := hp5 c_12b
      subst hq
      refine z_aload_n G dX3_piecesIn_21 rfl rfl rfl ?_
      refine z_V G dX3_piecesIn_22 rfl m_X3_thinks q2691 (C_X3_thinks h0) (by decide) (As := []) rfl rfl (Nat.le_of_ble_eq_true rfl) (Nat.zero_le _) (Nat.zero_le _) (mhas hA) (⟨_, _, _, _, _, hA, rfl, rfl, ?_⟩)
      refine z_aload_n G dX3_piecesIn_25 rfl rfl rfl ?_
      refine z_iload_n G dX3_piecesIn_26 rfl rfl rfl ?_
      refine z_V G dX3_piecesIn_27 rfl m_X3_passes q2933 (C_X3_passes h0) (by decide) (As := [_]) rfl rfl (Nat.le_of_ble_eq_true rfl) (Nat.zero_le _) (Nat.zero_le _) (mhas hA) (⟨_, _, _, _, _, _, _, _, hA, rfl, rfl, (by first | assumption | decide | omega), (by first | assumption | decide | omega), (by first | assumption | decide | omega), (by first | assumption | decide | omega), (by first | assumption | decide | omega), ?_⟩)
      refine z_pop G dX3_piecesIn_30 rfl rfl ?_
      refine z_aload_n G dX3_piecesIn_31 rfl rfl rfl ?_
      refine z_V G dX3_piecesIn_32 rfl m_X3_piecesNow q2775 (C_X3_piecesNow h0) (by decide) (As := []) rfl rfl (Nat.le_of_ble_eq_true rfl) (Nat.zero_le _) (Nat.zero_le _) (mhas hA) (⟨_, _, _, _, _, hA, rfl, rfl, ?_⟩)
      refine z_istore_n G dX3_piecesIn_35 rfl (i := 2) rfl (by decide) (zcat_s rfl) (show Z 36 [_, _, _] _ _ _ _ from ?_)
      refine z_aload_n G dX3_piecesIn_36 rfl rfl rfl ?_
      refine z_V G dX3_piecesIn_37 rfl m_X3_forgets q2882 (C_X3_forgets h0) (by decide) (As := []) rfl rfl (Nat.le_of_ble_eq_true rfl) (Nat.zero_le _) (Nat.zero_le _) (mhas hA) (⟨_, _, _, _, _, hA, rfl, rfl, ?_⟩)
      refine z_iload_n G dX3_piecesIn_40 rfl rfl rfl ?_
      exact z_iret G dX3_piecesIn_41 rfl rfl (by rw [upA_s, cpy_back (fun k hk => pass_hi hp0 hp2 hp3 hk m)]; exact hK1 hb)
    · have c_12b := bI_f c_12
      refine z_aload_n G dX3_piecesIn_15 rfl rfl rfl ?_
      refine z_iconst G dX3_piecesIn_16 rfl (v := 1) (by decide) ?_
      refine z_V G dX3_piecesIn_17 rfl m_X3_fails q2683 (C_X3_fails h0) (by decide) (As := [_]) rfl rfl (Nat.le_of_ble_eq_true rfl) (Nat.zero_le _) (Nat.zero_le _) (mhas hA) (⟨_, _, _, _, _, _, hA, rfl, rfl, ?_⟩)
      exact z_iret G dX3_piecesIn_20 rfl rfl (by rw [upd_upd]; exact hK0 c_12b)
def T_X3_isAhead : List Value → Hp → (Res → Hp → Prop) → Prop := fun av g K => ∃ (A : Nat → Nat) (S : Nat → Int32) (F : Nat → Nat → Int32) (w : Nat → Int32) (g0 : Hp) (a b : Nat), mok A ∧ g = mdl A S F w g0 ∧ av = [.ref (A 0), .int (nI a), .int (nI b)] ∧ a < 10 ∧ b < 10 ∧ K (.inl (some (.int (bI (r_ahd w a b))))) g
theorem C_X3_isAhead {l : Launch} {s0 : State} (h0 : St0 l s0) : Ctr l s0 yX3_isAhead (ws_ yX3_isAhead cX3_isAhead 3 (Option.some Jvm.ClassFile.FieldType.boolean)) 2 0 0 T_X3_isAhead := by
  refine ctr_of h0 (by decide) ?_ ?_
  · rintro av g K ⟨A, S, F, w, g0, a, b, hA, rfl, rfl, hp0, hp1, hK⟩
    exact Nat.le_of_ble_eq_true rfl
  · rintro Z X av g K G ⟨A, S, F, w, g0, a, b, hA, rfl, rfl, hp0, hp1, hK⟩
    show Z 0 [some (.ref (A 0)), some (.int (nI a)), some (.int (nI b))] [] _ _ _
    refine z_aload_n G dX3_isAhead_0 rfl rfl rfl ?_
    refine z_iload_n G dX3_isAhead_1 rfl rfl rfl ?_
    refine z_iconst G dX3_isAhead_2 rfl (v := 0) (by decide) ?_
    refine z_V G dX3_isAhead_3 rfl m_X3_of q2751 (C_X3_of h0) (by decide) (As := [_, _]) rfl rfl (Nat.le_of_ble_eq_true rfl) (Nat.zero_le _) (Nat.zero_le _) (mhas hA) (⟨_, _, _, _, _, _, _, hA, rfl, rfl, (by first | assumption | decide | omega), (by first | assumption | decide | omega), ?_⟩)
    refine z_aload_n G dX3_isAhead_6 rfl rfl rfl ?_
    refine z_iload_n G dX3_isAhead_7 rfl rfl rfl ?_
    refine z_iconst G dX3_isAhead_8 rfl (v := 0) (by decide) ?_
    refine z_V G dX3_isAhead_9 rfl m_X3_of q2751 (C_X3_of h0) (by decide) (As := [_, _]) rfl rfl (Nat.le_of_ble_eq_true rfl) (Nat.zero_le _) (Nat.zero_le _) (mhas hA) (⟨_, _, _, _, _, _, _, hA, rfl, rfl, (by first | assumption | decide | omega), (by first | assumption | decide | omega), ?_⟩)
    refine z_icmp_eq G dX3_isAhead_12 rfl (tgt := 36) (by decide) (fun c_12 => ?_) (fun c_12 => ?_)
    · refine z_aload_n G dX3_isAhead_36 rfl rfl rfl ?_
      refine z_iload_n G dX3_isAhead_37 rfl rfl rfl ?_
      refine z_iconst G dX3_isAhead_38 rfl (v := 1) (by decide) ?_
      refine z_V G dX3_isAhead_39 rfl m_X3_of q2751 (C_X3_of h0) (by decide) (As := [_, _]) rfl rfl (Nat.le_of_ble_eq_true rfl) (Nat.zero_le _) (Nat.zero_le _) (mhas hA) (⟨_, _, _, _, _, _, _, hA, rfl, rfl, (by first | assumption | decide | omega), (by first | assumption | decide | omega), ?_⟩)
      refine z_aload_n G dX3_isAhead_42 rfl rfl rfl ?_
      refine z_iload_n G dX3_isAhead_43 rfl rfl rfl ?_
      refine z_iconst G dX3_isAhead_44 rfl (v := 1) (by decide) ?_
      refine z_V G dX3_isAhead_45 rfl m_X3_of q2751 (C_X3_of h0) (by decide) (As := [_, _]) rfl rfl (Nat.le_of_ble_eq_true rfl) (Nat.zero_le _) (Nat.zero_le _) (mhas hA) (⟨_, _, _, _, _, _, _, hA, rfl, rfl, (by first | assumption | decide | omega), (by first | assumption | decide | omega), ?_⟩)
      refine z_icmp_eq G dX3_isAhead_48 rfl (tgt := 74) (by decide) (fun c_48 => ?_) (fun c_48 => ?_)
      · refine z_iload_n G dX3_isAhead_74 rfl rfl rfl ?_
        refine z_iload_n G dX3_isAhead_75 rfl rfl rfl ?_
        refine z_icmp_ge G dX3_isAhead_76 rfl (tgt := 83) (by decide) (fun c_76 => ?_) (fun c_76 => ?_)
        · have c_76n := Int32.not_lt.mpr c_76
          have c_76N := (nI_leI (a := b) (b := a) (by omega) (by omega)).mp c_76
          refine z_iconst G dX3_isAhead_83 rfl (v := 0) (by decide) ?_
          exact z_iret G dX3_isAhead_84 rfl rfl (by simp only [r_ahd, bI, c_12, c_48, c_76, c_76n, c_76N, eq_self, if_true, if_false, decide_true, decide_false, Bool.not_true, Bool.not_false, reduceIte, not_true, not_false_eq_true, Bool.false_eq_true] at hK ⊢; exact hK)
        · have c_76n := Int32.not_le.mp c_76
          have c_76N := (not_congr <| nI_leI (a := b) (b := a) (by omega) (by omega)).mp c_76
          refine z_iconst G dX3_isAhead_79 rfl (v := 1) (by decide) ?_
          refine z_goto G dX3_isAhead_80 (tgt := 84) (by decide) ?_
          exact z_iret G dX3_isAhead_84 rfl rfl (by simp only [r_ahd, bI, c_12, c_48, c_76, c_76n, c_76N, eq_self, if_true, if_false, decide_true, decide_false, Bool.not_true, Bool.not_false, reduceIte, not_true, not_false_eq_true, Bool.false_eq_true] at hK ⊢; exact hK)
      · refine z_aload_n G dX3_isAhead_51 rfl rfl rfl ?_
        refine z_iload_n G dX3_isAhead_52 rfl rfl rfl ?_
        refine z_iconst G dX3_isAhead_53 rfl (v := 1) (by decide) ?_
        refine z_V G dX3_isAhead_54 rfl m_X3_of q2751 (C_X3_of h0) (by decide) (As := [_, _]) rfl rfl (Nat.le_of_ble_eq_true rfl) (Nat.zero_le _) (Nat.zero_le _) (mhas hA) (⟨_, _, _, _, _, _, _, hA, rfl, rfl, (by first | assumption | decide | omega), (by first | assumption | decide | omega), ?_⟩)
        refine z_aload_n G dX3_isAhead_57 rfl rfl rfl ?_
        refine z_iload_n G dX3_isAhead_58 rfl rfl rfl ?_
        refine z_iconst G dX3_isAhead_59 rfl (v := 1) (by decide) ?_
        refine z_V G dX3_isAhead_60 rfl m_X3_of q2751 (C_X3_of h0) (by decide) (As := [_, _]) rfl rfl (Nat.le_of_ble_eq_true rfl) (Nat.zero_le _) (Nat.zero_le _) (mhas hA) (⟨_, _, _, _, _, _, _, hA, rfl, rfl, (by first | assumption | decide | omega), (by first | assumption | decide | omega), ?_⟩)
        refine z_icmp_ge G dX3_isAhead_63 rfl (tgt := 70) (by decide) (fun c_63 => ?_) (fun c_63 => ?_)
        · have c_63n := Int32.not_lt.mpr c_63
          refine z_iconst G dX3_isAhead_70 rfl (v := 0) (by decide) ?_
          refine z_goto G dX3_isAhead_71 (tgt := 84) (by decide) ?_
          exact z_iret G dX3_isAhead_84 rfl rfl (by simp only [r_ahd, bI, c_12, c_48, c_63, c_63n, eq_self, if_true, if_false, decide_true, decide_false, Bool.not_true, Bool.not_false, reduceIte, not_true, not_false_eq_true, Bool.false_eq_true] at hK ⊢; exact hK)
        · have c_63n := Int32.not_le.mp c_63
          refine z_iconst G dX3_isAhead_66 rfl (v := 1) (by decide) ?_
          refine z_goto G dX3_isAhead_67 (tgt := 84) (by decide) ?_
          exact z_iret G dX3_isAhead_84 rfl rfl (by simp only [r_ahd, bI, c_12, c_48, c_63, c_63n, eq_self, if_true, if_false, decide_true, decide_false, Bool.not_true, Bool.not_false, reduceIte, not_true, not_false_eq_true, Bool.false_eq_true] at hK ⊢; exact hK)
    · refine z_aload_n G dX3_isAhead_15 rfl rfl rfl ?_
      refine z_iload_n G dX3_isAhead_16 rfl rfl rfl ?_
      refine z_iconst G dX3_isAhead_17 rfl (v := 0) (by decide) ?_
      refine z_V G dX3_isAhead_18 rfl m_X3_of q2751 (C_X3_of h0) (by decide) (As := [_, _]) rfl rfl (Nat.le_of_ble_eq_true rfl) (Nat.zero_le _) (Nat.zero_le _) (mhas hA) (⟨_, _, _, _, _, _, _, hA, rfl, rfl, (by first | assumption | decide | omega), (by first | assumption | decide | omega), ?_⟩)
      refine z_aload_n G dX3_isAhead_21 rfl rfl rfl ?_
      refine z_iload_n G dX3_isAhead_22 rfl rfl rfl ?_
      refine z_iconst G dX3_isAhead_23 rfl (v := 0) (by decide) ?_
      refine z_V G dX3_isAhead_24 rfl m_X3_of q2751 (C_X3_of h0) (by decide) (As := [_, _]) rfl rfl (Nat.le_of_ble_eq_true rfl) (Nat.zero_le _) (Nat.zero_le _) (mhas hA) (⟨_, _, _, _, _, _, _, hA, rfl, rfl, (by first | assumption | decide | omega), (by first | assumption | decide | omega), ?_⟩)
      refine z_icmp_le G dX3_isAhead_27 rfl (tgt := 34) (by decide) (fun c_27 => ?_) (fun c_27 => ?_)
      · have c_27n := Int32.not_lt.mpr c_27
        refine z_iconst G dX3_isAhead_34 rfl (v := 0) (by decide) ?_
        exact z_iret G dX3_isAhead_35 rfl rfl (by simp only [r_ahd, bI, c_12, c_27, c_27n, eq_self, if_true, if_false, decide_true, decide_false, Bool.not_true, Bool.not_false, reduceIte, not_true, not_false_eq_true, Bool.false_eq_true] at hK ⊢; exact hK)
      · have c_27n := Int32.not_le.mp c_27
        refine z_iconst G dX3_isAhead_30 rfl (v := 1) (by decide) ?_
        refine z_goto G dX3_isAhead_31 (tgt := 35) (by decide) ?_
        exact z_iret G dX3_isAhead_35 rfl rfl (by simp only [r_ahd, bI, c_12, c_27, c_27n, eq_self, if_true, if_false, decide_true, decide_false, Bool.not_true, Bool.not_false, reduceIte, not_true, not_false_eq_true, Bool.false_eq_true] at hK ⊢; exact hK)
def T_X3_ranked : List Value → Hp → (Res → Hp → Prop) → Prop := fun av g K => ∃ (A : Nat → Nat) (S : Nat → Int32) (F : Nat → Nat → Int32) (w : Nat → Int32) (g0 : Hp) (v : Int32) (np : Nat), mok A ∧ g = mdl A S F w g0 ∧ av = [.ref (A 0), .int v] ∧ w 2 = nI np ∧ np ≤ 10 ∧ K (.inl (some (.int (r_rkd w np v np 0).2))) (mdl A (upd S 0 (r_rkd w np v np 0).1) F w g0)
theorem C_X3_ranked {l : Launch} {s0 : State} (h0 : St0 l s0) : Ctr l s0 yX3_ranked (ws_ yX3_ranked cX3_ranked 5 (Option.some Jvm.ClassFile.FieldType.int)) 3 0 0 T_X3_ranked := by
  refine ctr_of h0 (by decide) ?_ ?_
  · rintro av g K ⟨A, S, F, w, g0, v, np, hA, rfl, rfl, hp0, hp1, hK⟩
    exact Nat.le_of_ble_eq_true rfl
  · rintro Z X av g K G ⟨A, S, F, w, g0, v, np, hA, rfl, rfl, hp0, hp1, hK⟩
    show Z 0 [some (.ref (A 0)), some (.int v), none, none, none] [] _ _ _
    refine z_aload_n G dX3_ranked_0 rfl rfl rfl ?_
    refine z_iconst G dX3_ranked_1 rfl (v := 0) (by decide) ?_
    refine mz_put G hA dX3_ranked_2 rfl (j := 0) fl_X3_42_2p rfl rfl (by decide) rfl ?_
    refine z_iconst G dX3_ranked_5 rfl (v := 0) (by decide) ?_
    refine z_istore_n G dX3_ranked_6 rfl (i := 2) rfl (by decide) (zcat_s rfl) (show Z 7 [_, _, _, _, _] _ _ _ _ from ?_)
    have L7 : ∀ (n p : Nat) (o3 o4 : Option Value), p + n = np → K (.inl (some (.int (r_rkd w np v n p).2))) (mdl A (upd S 0 (r_rkd w np v n p).1) F w g0) → Z 7 [some (.ref (A 0)), some (.int v), some (.int (nI p)), o3, o4] [] (mdl A (upd S 0 0) F w g0) 0 0 := by
      intro n
      induction n with
      | zero =>
        intro p o3 o4 hp hK
        refine z_iload_n G dX3_ranked_7 rfl rfl rfl ?_
        refine z_aload_n G dX3_ranked_8 rfl rfl rfl ?_
        refine mz_get G hA dX3_ranked_9 rfl (j := 7) fl_X3_16_2 rfl ?_
        refine z_iconst G dX3_ranked_12 rfl (v := 2) (by decide) ?_
        refine mz_wldN G hA dX3_ranked_13 rfl (2) rfl (by decide) (np) hp0 ?_
        refine z_icmp_ge G dX3_ranked_14 rfl (tgt := 70) (by decide) (fun c_14 => ?_) (fun c_14 => ?_)
        · have c_14n := Int32.not_lt.mpr c_14
          have c_14N := (nI_leI (a := np) (b := p) (by omega) (by omega)).mp c_14
          refine z_aload_n G dX3_ranked_70 rfl rfl rfl ?_
          refine z_iconst G dX3_ranked_71 rfl (v := 1) (by decide) ?_
          refine z_V G dX3_ranked_72 rfl m_X3_fails q2683 (C_X3_fails h0) (by decide) (As := [_]) rfl rfl (Nat.le_of_ble_eq_true rfl) (Nat.zero_le _) (Nat.zero_le _) (mhas hA) (⟨_, _, _, _, _, _, hA, rfl, rfl, ?_⟩)
          exact z_iret G dX3_ranked_75 rfl rfl (by rw [upd_upd]; exact hK)
        · exact absurd ((not_congr <| nI_leI (a := np) (b := p) (by omega) (by omega)).mp c_14) (by omega)
      | succ n ih =>
        intro p o3 o4 hp hK
        have ih1 := ih
        refine z_iload_n G dX3_ranked_7 rfl rfl rfl ?_
        refine z_aload_n G dX3_ranked_8 rfl rfl rfl ?_
        refine mz_get G hA dX3_ranked_9 rfl (j := 7) fl_X3_16_2 rfl ?_
        refine z_iconst G dX3_ranked_12 rfl (v := 2) (by decide) ?_
        refine mz_wldN G hA dX3_ranked_13 rfl (2) rfl (by decide) (np) hp0 ?_
        refine z_icmp_ge G dX3_ranked_14 rfl (tgt := 70) (by decide) (fun c_14 => ?_) (fun c_14 => ?_)
        · exact absurd ((nI_leI (a := np) (b := p) (by omega) (by omega)).mp c_14) (by omega)
        · have c_14n := Int32.not_le.mp c_14
          have c_14N := (not_congr <| nI_leI (a := np) (b := p) (by omega) (by omega)).mp c_14
          refine z_iconst G dX3_ranked_17 rfl (v := 0) (by decide) ?_
          refine z_istore_n G dX3_ranked_18 rfl (i := 3) rfl (by decide) (zcat_s rfl) (show Z 19 [_, _, _, _, _] _ _ _ _ from ?_)
          refine z_iconst G dX3_ranked_19 rfl (v := 0) (by decide) ?_
          refine z_istore G dX3_ranked_20 rfl (i := 4) (by decide) (zcat_s rfl) (show Z 22 [_, _, _, _, _] _ _ _ _ from ?_)
          have L22 : ∀ (n k v0 : Nat), k + n = np → v0 = r_rnk w p k → Z 22 [some (.ref (A 0)), some (.int v), some (.int (nI p)), some (.int (nI v0)), some (.int (nI k))] [] (mdl A (upd S 0 0) F w g0) 0 0 := by
            intro n
            induction n with
            | zero =>
              intro k v0 hk hv
              refine z_iload G dX3_ranked_22 rfl rfl ?_
              refine z_aload_n G dX3_ranked_24 rfl rfl rfl ?_
              refine mz_get G hA dX3_ranked_25 rfl (j := 7) fl_X3_16_2 rfl ?_
              refine z_iconst G dX3_ranked_28 rfl (v := 2) (by decide) ?_
              refine mz_wldN G hA dX3_ranked_29 rfl (2) rfl (by decide) (np) hp0 ?_
              refine z_icmp_ge G dX3_ranked_30 rfl (tgt := 57) (by decide) (fun c_30 => ?_) (fun c_30 => ?_)
              · have c_30n := Int32.not_lt.mpr c_30
                have c_30N := (nI_leI (a := np) (b := k) (by omega) (by omega)).mp c_30
                obtain rfl : k = np := by omega
                subst hv
                refine z_iload_n G dX3_ranked_57 rfl rfl rfl ?_
                refine z_iload_n G dX3_ranked_58 rfl rfl rfl ?_
                refine z_icmp_ne G dX3_ranked_59 rfl (tgt := 64) (by decide) (fun c_59 => ?_) (fun c_59 => ?_)
                · refine z_iinc G dX3_ranked_64 rfl rfl (nI_1 _) (by decide) (zcat_s rfl) (show Z 67 [_, _, _, _, _] _ _ _ _ from ?_)
                  refine z_goto G dX3_ranked_67 (tgt := 7) (by decide) ?_
                  exact ih1 (p + 1) _ _ (by omega) (by simpa [r_rkd, c_59] using hK)
                · refine z_iload_n G dX3_ranked_62 rfl rfl rfl ?_
                  exact z_iret G dX3_ranked_63 rfl rfl (by simpa [r_rkd, c_59] using hK)
              · exact absurd ((not_congr <| nI_leI (a := np) (b := k) (by omega) (by omega)).mp c_30) (by omega)
            | succ n ih =>
              intro k v0 hk hv
              refine z_iload G dX3_ranked_22 rfl rfl ?_
              refine z_aload_n G dX3_ranked_24 rfl rfl rfl ?_
              refine mz_get G hA dX3_ranked_25 rfl (j := 7) fl_X3_16_2 rfl ?_
              refine z_iconst G dX3_ranked_28 rfl (v := 2) (by decide) ?_
              refine mz_wldN G hA dX3_ranked_29 rfl (2) rfl (by decide) (np) hp0 ?_
              refine z_icmp_ge G dX3_ranked_30 rfl (tgt := 57) (by decide) (fun c_30 => ?_) (fun c_30 => ?_)
              · exact absurd ((nI_leI (a := np) (b := k) (by omega) (by omega)).mp c_30) (by omega)
              · have c_30n := Int32.not_le.mp c_30
                have c_30N := (not_congr <| nI_leI (a := np) (b := k) (by omega) (by omega)).mp c_30
                refine z_iload_n G dX3_ranked_33 rfl rfl rfl ?_
                refine z_aload_n G dX3_ranked_34 rfl rfl rfl ?_
                refine z_iload G dX3_ranked_35 rfl rfl ?_
                refine z_iload_n G dX3_ranked_37 rfl rfl rfl ?_
                refine z_V G dX3_ranked_38 rfl m_X3_isAhead q3041 (C_X3_isAhead h0) (by decide) (As := [_, _]) rfl rfl (Nat.le_of_ble_eq_true rfl) (Nat.zero_le _) (Nat.zero_le _) (mhas hA) (⟨_, _, _, _, _, _, _, hA, rfl, rfl, (by first | assumption | decide | omega), (by first | assumption | decide | omega), ?_⟩)
                refine z_if_eq G dX3_ranked_41 rfl (tgt := 48) (by decide) (fun c_41 => ?_) (fun c_41 => ?_)
                · have c_41b := bI_f c_41
                  refine z_iconst G dX3_ranked_48 rfl (v := 0) (by decide) ?_
                  refine z_iaddN G (v0) (0) rfl rfl dX3_ranked_49 rfl ?_
                  refine z_istore_n G dX3_ranked_50 rfl (i := 3) rfl (by decide) (zcat_s rfl) (show Z 51 [_, _, _, _, _] _ _ _ _ from ?_)
                  refine z_iinc G dX3_ranked_51 rfl rfl (nI_1 _) (by decide) (zcat_s rfl) (show Z 54 [_, _, _, _, _] _ _ _ _ from ?_)
                  refine z_goto G dX3_ranked_54 (tgt := 22) (by decide) ?_
                  exact ih (k + 1) _ (by omega) (by rw [hv]; simp [r_rnk, c_14, c_14n, c_14N, c_30, c_30n, c_30N, c_41, c_41b])
                · have c_41b := bI_t c_41
                  refine z_iconst G dX3_ranked_44 rfl (v := 1) (by decide) ?_
                  refine z_goto G dX3_ranked_45 (tgt := 49) (by decide) ?_
                  refine z_iaddN G (v0) (1) rfl rfl dX3_ranked_49 rfl ?_
                  refine z_istore_n G dX3_ranked_50 rfl (i := 3) rfl (by decide) (zcat_s rfl) (show Z 51 [_, _, _, _, _] _ _ _ _ from ?_)
                  refine z_iinc G dX3_ranked_51 rfl rfl (nI_1 _) (by decide) (zcat_s rfl) (show Z 54 [_, _, _, _, _] _ _ _ _ from ?_)
                  refine z_goto G dX3_ranked_54 (tgt := 22) (by decide) ?_
                  exact ih (k + 1) _ (by omega) (by rw [hv]; simp [r_rnk, c_14, c_14n, c_14N, c_30, c_30n, c_30N, c_41, c_41b])
          exact L22 np 0 0 (by omega) rfl
    exact L7 np 0 _ _ (by omega) hK
def T_X3_lumps : List Value → Hp → (Res → Hp → Prop) → Prop := fun av g K => ∃ (A : Nat → Nat) (S : Nat → Int32) (F : Nat → Nat → Int32) (w : Nat → Int32) (g0 : Hp) , mok A ∧ g = mdl A S F w g0 ∧ av = [.ref (A 0)] ∧ K (.inl (some (.int (w 4)))) (mdl A (upd S 0 0) F w g0)
theorem C_X3_lumps {l : Launch} {s0 : State} (h0 : St0 l s0) : Ctr l s0 yX3_lumps (ws_ yX3_lumps cX3_lumps 1 (Option.some Jvm.ClassFile.FieldType.int)) 1 0 0 T_X3_lumps := by
  refine ctr_of h0 (by decide) ?_ ?_
  · rintro av g K ⟨A, S, F, w, g0, hA, rfl, rfl, hK⟩
    exact Nat.le_of_ble_eq_true rfl
  · rintro Z X av g K G ⟨A, S, F, w, g0, hA, rfl, rfl, hK⟩
    show Z 0 [some (.ref (A 0))] [] _ _ _
    refine z_aload_n G dX3_lumps_0 rfl rfl rfl ?_
    refine z_iconst G dX3_lumps_1 rfl (v := 0) (by decide) ?_
    refine mz_put G hA dX3_lumps_2 rfl (j := 0) fl_X3_42_2p rfl rfl (by decide) rfl ?_
    refine z_aload_n G dX3_lumps_5 rfl rfl rfl ?_
    refine mz_get G hA dX3_lumps_6 rfl (j := 7) fl_X3_16_2 rfl ?_
    refine z_iconst G dX3_lumps_9 rfl (v := 4) (by decide) ?_
    refine mz_wld G hA dX3_lumps_10 rfl (4) rfl (by decide) ?_
    exact z_iret G dX3_lumps_11 rfl rfl (hK)
def T_X3_lumpsAgain : List Value → Hp → (Res → Hp → Prop) → Prop := fun av g K => ∃ (A : Nat → Nat) (S : Nat → Int32) (F : Nat → Nat → Int32) (w : Nat → Int32) (g0 : Hp) , mok A ∧ g = mdl A S F w g0 ∧ av = [.ref (A 0)] ∧ K (.inl (some (.int (w 5 - w 6 - w 7)))) (mdl A (upd S 0 0) F w g0)
theorem C_X3_lumpsAgain {l : Launch} {s0 : State} (h0 : St0 l s0) : Ctr l s0 yX3_lumpsAgain (ws_ yX3_lumpsAgain cX3_lumpsAgain 1 (Option.some Jvm.ClassFile.FieldType.int)) 1 0 0 T_X3_lumpsAgain := by
  refine ctr_of h0 (by decide) ?_ ?_
  · rintro av g K ⟨A, S, F, w, g0, hA, rfl, rfl, hK⟩
    exact Nat.le_of_ble_eq_true rfl
  · rintro Z X av g K G ⟨A, S, F, w, g0, hA, rfl, rfl, hK⟩
    show Z 0 [some (.ref (A 0))] [] _ _ _
    refine z_aload_n G dX3_lumpsAgain_0 rfl rfl rfl ?_
    refine z_iconst G dX3_lumpsAgain_1 rfl (v := 0) (by decide) ?_
    refine mz_put G hA dX3_lumpsAgain_2 rfl (j := 0) fl_X3_42_2p rfl rfl (by decide) rfl ?_
    refine z_aload_n G dX3_lumpsAgain_5 rfl rfl rfl ?_
    refine mz_get G hA dX3_lumpsAgain_6 rfl (j := 7) fl_X3_16_2 rfl ?_
    refine z_iconst G dX3_lumpsAgain_9 rfl (v := 5) (by decide) ?_
    refine mz_wld G hA dX3_lumpsAgain_10 rfl (5) rfl (by decide) ?_
    refine z_aload_n G dX3_lumpsAgain_11 rfl rfl rfl ?_
    refine mz_get G hA dX3_lumpsAgain_12 rfl (j := 7) fl_X3_16_2 rfl ?_
    refine z_bipush G dX3_lumpsAgain_15 rfl (v := 6) (by decide) ?_
    refine mz_wld G hA dX3_lumpsAgain_17 rfl (6) rfl (by decide) ?_
    refine z_isub G dX3_lumpsAgain_18 rfl ?_
    refine z_aload_n G dX3_lumpsAgain_19 rfl rfl rfl ?_
    refine mz_get G hA dX3_lumpsAgain_20 rfl (j := 7) fl_X3_16_2 rfl ?_
    refine z_bipush G dX3_lumpsAgain_23 rfl (v := 7) (by decide) ?_
    refine mz_wld G hA dX3_lumpsAgain_25 rfl (7) rfl (by decide) ?_
    refine z_isub G dX3_lumpsAgain_26 rfl ?_
    exact z_iret G dX3_lumpsAgain_27 rfl rfl (hK)
