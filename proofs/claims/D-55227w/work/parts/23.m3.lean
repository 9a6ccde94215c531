/-! THE REFERENCE: pipes, the bench, lumps, pieces, the curfew -/
def T_X3_notPipe : List Value → Hp → (Res → Hp → Prop) → Prop := fun av g K => ∃ (A : Nat → Nat) (S : Nat → Int32) (F : Nat → Nat → Int32) (w : Nat → Int32) (g0 : Hp) (stem crack : Int32), mok A ∧ g = mdl A S F w g0 ∧ av = [.ref (A 0), .int stem, .int crack] ∧ K (.inl (some (.int (nrv (o_pipe w stem crack))))) (mdl A (nS S (o_pipe w stem crack)) F w g0)
theorem C_X3_notPipe {l : Launch} {s0 : State} (h0 : St0 l s0) : Ctr l s0 yX3_notPipe (ws_ yX3_notPipe cX3_notPipe 3 (Option.some Jvm.ClassFile.FieldType.int)) 2 0 0 T_X3_notPipe := by
  refine ctr_of h0 (by decide) ?_ ?_
  · rintro av g K ⟨A, S, F, w, g0, stem, crack, hA, rfl, rfl, hK⟩
    exact Nat.le_of_ble_eq_true rfl
  · rintro Z X av g K G ⟨A, S, F, w, g0, stem, crack, hA, rfl, rfl, hK⟩
    show Z 0 [some (.ref (A 0)), some (.int stem), some (.int crack)] [] _ _ _
    refine z_iload_n G dX3_notPipe_0 rfl rfl rfl ?_
    refine z_iconst G dX3_notPipe_1 rfl (v := 1) (by decide) ?_
    refine z_bipush G dX3_notPipe_2 rfl (v := 12) (by decide) ?_
    refine z_S G dX3_notPipe_4 rfl m_X3_isBetween q2668 (C_X3_isBetween h0) (by decide) (As := [_, _, _]) rfl rfl (Nat.le_of_ble_eq_true rfl) (Nat.zero_le _) (Nat.zero_le _) (⟨_, _, _, rfl, ?_⟩)
    refine z_if_ne G dX3_notPipe_7 rfl (tgt := 17) (by decide) (fun c_7 => ?_) (fun c_7 => ?_)
    · have c_7b := bI_t c_7
      refine z_iload_n G dX3_notPipe_17 rfl rfl rfl ?_
      refine z_iconst G dX3_notPipe_18 rfl (v := 0) (by decide) ?_
      refine z_bipush G dX3_notPipe_19 rfl (v := 9) (by decide) ?_
      refine z_S G dX3_notPipe_21 rfl m_X3_isBetween q2668 (C_X3_isBetween h0) (by decide) (As := [_, _, _]) rfl rfl (Nat.le_of_ble_eq_true rfl) (Nat.zero_le _) (Nat.zero_le _) (⟨_, _, _, rfl, ?_⟩)
      refine z_if_ne G dX3_notPipe_24 rfl (tgt := 34) (by decide) (fun c_24 => ?_) (fun c_24 => ?_)
      · have c_24b := bI_t c_24
        refine z_aload_n G dX3_notPipe_34 rfl rfl rfl ?_
        refine mz_get G hA dX3_notPipe_35 rfl (j := 7) fl_X3_16_2 rfl ?_
        refine z_iconst G dX3_notPipe_38 rfl (v := 2) (by decide) ?_
        refine mz_wld G hA dX3_notPipe_39 rfl (2) rfl (by decide) ?_
        refine z_bipush G dX3_notPipe_40 rfl (v := 10) (by decide) ?_
        refine z_icmp_ne G dX3_notPipe_42 rfl (tgt := 55) (by decide) (fun c_42 => ?_) (fun c_42 => ?_)
        · refine z_iconst G dX3_notPipe_55 rfl (v := 0) (by decide) ?_
          exact z_iret G dX3_notPipe_56 rfl rfl (by simpa [o_pipe, isP, c_7, c_7b, c_24, c_24b, c_42, nrv, nS] using hK)
        · refine z_aload_n G dX3_notPipe_45 rfl rfl rfl ?_
          refine z_iconst G dX3_notPipe_46 rfl (v := 4) (by decide) ?_
          refine z_bipush G dX3_notPipe_47 rfl (v := 10) (by decide) ?_
          refine z_V G dX3_notPipe_49 rfl m_X3_isNot q2671 (C_X3_isNot h0) (by decide) (As := [_, _]) rfl rfl (Nat.le_of_ble_eq_true rfl) (Nat.zero_le _) (Nat.zero_le _) (mhas hA) (⟨_, _, _, _, _, _, _, hA, rfl, rfl, ?_⟩)
          refine z_goto G dX3_notPipe_52 (tgt := 56) (by decide) ?_
          exact z_iret G dX3_notPipe_56 rfl rfl (by simpa [o_pipe, isP, c_7, c_7b, c_24, c_24b, c_42, nrv, nS] using hK)
      · have c_24b := bI_f c_24
        refine z_aload_n G dX3_notPipe_27 rfl rfl rfl ?_
        refine z_iconst G dX3_notPipe_28 rfl (v := 3) (by decide) ?_
        refine z_iload_n G dX3_notPipe_29 rfl rfl rfl ?_
        refine z_V G dX3_notPipe_30 rfl m_X3_isNot q2671 (C_X3_isNot h0) (by decide) (As := [_, _]) rfl rfl (Nat.le_of_ble_eq_true rfl) (Nat.zero_le _) (Nat.zero_le _) (mhas hA) (⟨_, _, _, _, _, _, _, hA, rfl, rfl, ?_⟩)
        exact z_iret G dX3_notPipe_33 rfl rfl (by simpa [o_pipe, isP, c_7, c_7b, c_24, c_24b, nrv, nS] using hK)
    · have c_7b := bI_f c_7
      refine z_aload_n G dX3_notPipe_10 rfl rfl rfl ?_
      refine z_iconst G dX3_notPipe_11 rfl (v := 3) (by decide) ?_
      refine z_iload_n G dX3_notPipe_12 rfl rfl rfl ?_
      refine z_V G dX3_notPipe_13 rfl m_X3_isNot q2671 (C_X3_isNot h0) (by decide) (As := [_, _]) rfl rfl (Nat.le_of_ble_eq_true rfl) (Nat.zero_le _) (Nat.zero_le _) (mhas hA) (⟨_, _, _, _, _, _, _, hA, rfl, rfl, ?_⟩)
      exact z_iret G dX3_notPipe_16 rfl rfl (by simpa [o_pipe, isP, c_7, c_7b, nrv, nS] using hK)
def T_X3_pipe : List Value → Hp → (Res → Hp → Prop) → Prop := fun av g K => ∃ (A : Nat → Nat) (S : Nat → Int32) (F : Nat → Nat → Int32) (w : Nat → Int32) (g0 : Hp) (c f : Nat) (stem crack : Int32) (np : Nat), mok A ∧ g = mdl A S F w g0 ∧ av = [.ref (A 0), .int stem, .int crack] ∧ S 11 = nI c ∧ c ≤ 8 ∧ S 12 = nI f ∧ f < 8 ∧ w 2 = nI np ∧ (o_pipe w stem crack = none → np < 10) ∧ (∀ y, o_pipe w stem crack = some y → K (.inl (some (.int 0))) (mdl A (upd (nS (upd S 0 0) (some y)) 0 1) (m_ref (nS (upd S 0 0) (some y)) F) w g0)) ∧ (o_pipe w stem crack = none → K (.inl (some (.int (nI np)))) (mdl A (m_kmS (upd S 0 0) c f) (m_rem F w c f upA) (r_pip w stem crack np) g0))
theorem C_X3_pipe {l : Launch} {s0 : State} (h0 : St0 l s0) : Ctr l s0 yX3_pipe (ws_ yX3_pipe cX3_pipe 4 (Option.some Jvm.ClassFile.FieldType.int)) 3 0 0 T_X3_pipe := by
  refine ctr_of h0 (by decide) ?_ ?_
  · rintro av g K ⟨A, S, F, w, g0, c, f, stem, crack, np, hA, rfl, rfl, hc0, hc1, hc2, hc3, hp0, hp1, hR, hK⟩
    exact Nat.le_of_ble_eq_true rfl
  · rintro Z X av g K G ⟨A, S, F, w, g0, c, f, stem, crack, np, hA, rfl, rfl, hc0, hc1, hc2, hc3, hp0, hp1, hR, hK⟩
    show Z 0 [some (.ref (A 0)), some (.int stem), some (.int crack), none] [] _ _ _
    refine z_aload_n G dX3_pipe_0 rfl rfl rfl ?_
    refine z_iconst G dX3_pipe_1 rfl (v := 0) (by decide) ?_
    refine mz_put G hA dX3_pipe_2 rfl (j := 0) fl_X3_42_2p rfl rfl (by decide) rfl ?_
    refine z_aload_n G dX3_pipe_5 rfl rfl rfl ?_
    refine z_iload_n G dX3_pipe_6 rfl rfl rfl ?_
    refine z_iload_n G dX3_pipe_7 rfl rfl rfl ?_
    refine z_V G dX3_pipe_8 rfl m_X3_notPipe q2664 (C_X3_notPipe h0) (by decide) (As := [_, _]) rfl rfl (Nat.le_of_ble_eq_true rfl) (Nat.zero_le _) (Nat.zero_le _) (mhas hA) (⟨_, _, _, _, _, _, _, hA, rfl, rfl, ?_⟩)
    refine z_if_eq G dX3_pipe_11 rfl (tgt := 19) (by decide) (fun c_11 => ?_) (fun c_11 => ?_)
    · have ho := nrv_0 c_11
      rw [ho]
      have hq := hp1 ho
      refine z_aload_n G dX3_pipe_19 rfl rfl rfl ?_
      refine z_V G dX3_pipe_20 rfl m_X3_remembers q2687 (C_X3_remembers h0) (by decide) (As := []) rfl rfl (Nat.le_of_ble_eq_true rfl) (Nat.zero_le _) (Nat.zero_le _) (mhas hA) (⟨_, _, _, _, _, _, _, hA, rfl, rfl, (by first | assumption | decide | omega), (by first | assumption | decide | omega), (by first | assumption | decide | omega), (by first | assumption | decide | omega), ?_⟩)
      refine z_aload_n G dX3_pipe_23 rfl rfl rfl ?_
      refine mz_get G hA dX3_pipe_24 rfl (j := 7) fl_X3_16_2 rfl ?_
      refine z_iconst G dX3_pipe_27 rfl (v := 2) (by decide) ?_
      refine mz_wldN G hA dX3_pipe_28 rfl (2) rfl (by decide) (np) hp0 ?_
      refine z_istore_n G dX3_pipe_29 rfl (i := 3) rfl (by decide) (zcat_s rfl) (show Z 30 [_, _, _, _] _ _ _ _ from ?_)
      refine z_aload_n G dX3_pipe_30 rfl rfl rfl ?_
      refine mz_get G hA dX3_pipe_31 rfl (j := 7) fl_X3_16_2 rfl ?_
      refine z_iconst G dX3_pipe_34 rfl (v := 2) (by decide) ?_
      refine z_dup2_11 G dX3_pipe_35 rfl rfl rfl ?_
      refine mz_wldN G hA dX3_pipe_36 rfl (2) rfl (by decide) (np) hp0 ?_
      refine z_iconst G dX3_pipe_37 rfl (v := 1) (by decide) ?_
      refine z_iaddN G (np) (1) rfl rfl dX3_pipe_38 rfl ?_
      refine mz_wst G hA dX3_pipe_39 rfl (2) rfl (by decide) ?_
      refine z_aload_n G dX3_pipe_40 rfl rfl rfl ?_
      refine z_iload_n G dX3_pipe_41 rfl rfl rfl ?_
      refine z_iconst G dX3_pipe_42 rfl (v := 0) (by decide) ?_
      refine z_iload_n G dX3_pipe_43 rfl rfl rfl ?_
      refine z_V G dX3_pipe_44 rfl m_X3_sets q2699 (C_X3_sets h0) (by decide) (As := [_, _, _]) rfl rfl (Nat.le_of_ble_eq_true rfl) (Nat.zero_le _) (Nat.zero_le _) (mhas hA) (⟨_, _, _, _, _, _, _, _, hA, rfl, rfl, (by first | assumption | decide | omega), (by first | assumption | decide | omega), ?_⟩)
      refine z_aload_n G dX3_pipe_47 rfl rfl rfl ?_
      refine z_iload_n G dX3_pipe_48 rfl rfl rfl ?_
      refine z_iconst G dX3_pipe_49 rfl (v := 1) (by decide) ?_
      refine z_iload_n G dX3_pipe_50 rfl rfl rfl ?_
      refine z_V G dX3_pipe_51 rfl m_X3_sets q2699 (C_X3_sets h0) (by decide) (As := [_, _, _]) rfl rfl (Nat.le_of_ble_eq_true rfl) (Nat.zero_le _) (Nat.zero_le _) (mhas hA) (⟨_, _, _, _, _, _, _, _, hA, rfl, rfl, (by first | assumption | decide | omega), (by first | assumption | decide | omega), ?_⟩)
      refine z_iload_n G dX3_pipe_54 rfl rfl rfl ?_
      exact z_iret G dX3_pipe_55 rfl rfl (hK ho)
    · obtain ⟨y, hy⟩ := nrv_n c_11
      rw [hy]
      refine z_aload_n G dX3_pipe_14 rfl rfl rfl ?_
      refine z_V G dX3_pipe_15 rfl m_X3_refuses q2675 (C_X3_refuses h0) (by decide) (As := []) rfl rfl (Nat.le_of_ble_eq_true rfl) (Nat.zero_le _) (Nat.zero_le _) (mhas hA) (⟨_, _, _, _, _, hA, rfl, rfl, ?_⟩)
      exact z_iret G dX3_pipe_18 rfl rfl (hR y hy)
def T_X3_notBring : List Value → Hp → (Res → Hp → Prop) → Prop := fun av g K => ∃ (A : Nat → Nat) (S : Nat → Int32) (F : Nat → Nat → Int32) (w : Nat → Int32) (g0 : Hp) (p : Int32) (nb : Nat), mok A ∧ g = mdl A S F w g0 ∧ av = [.ref (A 0), .int p] ∧ w 3 = nI nb ∧ nb ≤ 10 ∧ K (.inl (some (.int (nrv (o_bring w p nb))))) (mdl A (nS S (o_bring w p nb)) F w g0)
theorem C_X3_notBring {l : Launch} {s0 : State} (h0 : St0 l s0) : Ctr l s0 yX3_notBring (ws_ yX3_notBring cX3_notBring 2 (Option.some Jvm.ClassFile.FieldType.int)) 3 0 0 T_X3_notBring := by
  refine ctr_of h0 (by decide) ?_ ?_
  · rintro av g K ⟨A, S, F, w, g0, p, nb, hA, rfl, rfl, hp0, hp1, hK⟩
    exact Nat.le_of_ble_eq_true rfl
  · rintro Z X av g K G ⟨A, S, F, w, g0, p, nb, hA, rfl, rfl, hp0, hp1, hK⟩
    show Z 0 [some (.ref (A 0)), some (.int p)] [] _ _ _
    refine z_aload_n G dX3_notBring_0 rfl rfl rfl ?_
    refine z_iload_n G dX3_notBring_1 rfl rfl rfl ?_
    refine z_V G dX3_notBring_2 rfl m_X3_isPipe q2711 (C_X3_isPipe h0) (by decide) (As := [_]) rfl rfl (Nat.le_of_ble_eq_true rfl) (Nat.zero_le _) (Nat.zero_le _) (mhas hA) (⟨_, _, _, _, _, _, hA, rfl, rfl, ?_⟩)
    refine z_if_ne G dX3_notBring_5 rfl (tgt := 15) (by decide) (fun c_5 => ?_) (fun c_5 => ?_)
    · have c_5b := bI_t c_5
      refine z_aload_n G dX3_notBring_15 rfl rfl rfl ?_
      refine z_iload_n G dX3_notBring_16 rfl rfl rfl ?_
      refine z_V G dX3_notBring_17 rfl m_X3_placeOf q2715 (C_X3_placeOf h0) (by decide) (As := [_]) rfl rfl (Nat.le_of_ble_eq_true rfl) (Nat.zero_le _) (Nat.zero_le _) (mhas hA) (⟨_, _, _, _, _, _, _, hA, rfl, rfl, (by first | assumption | decide | omega), (by first | assumption | decide | omega), ?_⟩)
      refine z_if_lt G dX3_notBring_20 rfl (tgt := 36) (by decide) (fun c_20 => ?_) (fun c_20 => ?_)
      · have c_20n := Int32.not_le.mpr c_20
        refine z_iconst G dX3_notBring_36 rfl (v := 0) (by decide) ?_
        exact z_iret G dX3_notBring_37 rfl rfl (by simpa [o_bring, isP, c_5, c_5b, c_20, c_20n, nrv, nS] using hK)
      · have c_20n := Int32.not_lt.mp c_20
        refine z_aload_n G dX3_notBring_23 rfl rfl rfl ?_
        refine z_iconst G dX3_notBring_24 rfl (v := 5) (by decide) ?_
        refine z_aload_n G dX3_notBring_25 rfl rfl rfl ?_
        refine z_iload_n G dX3_notBring_26 rfl rfl rfl ?_
        refine z_V G dX3_notBring_27 rfl m_X3_placeOf q2715 (C_X3_placeOf h0) (by decide) (As := [_]) rfl rfl (Nat.le_of_ble_eq_true rfl) (Nat.zero_le _) (Nat.zero_le _) (mhas hA) (⟨_, _, _, _, _, _, _, hA, rfl, rfl, (by first | assumption | decide | omega), (by first | assumption | decide | omega), ?_⟩)
        refine z_V G dX3_notBring_30 rfl m_X3_isNot q2671 (C_X3_isNot h0) (by decide) (As := [_, _]) rfl rfl (Nat.le_of_ble_eq_true rfl) (Nat.zero_le _) (Nat.zero_le _) (mhas hA) (⟨_, _, _, _, _, _, _, hA, rfl, rfl, ?_⟩)
        refine z_goto G dX3_notBring_33 (tgt := 37) (by decide) ?_
        exact z_iret G dX3_notBring_37 rfl rfl (by simpa [o_bring, isP, c_5, c_5b, c_20, c_20n, nrv, nS] using hK)
    · have c_5b := bI_f c_5
      refine z_aload_n G dX3_notBring_8 rfl rfl rfl ?_
      refine z_iconst G dX3_notBring_9 rfl (v := 1) (by decide) ?_
      refine z_iload_n G dX3_notBring_10 rfl rfl rfl ?_
      refine z_V G dX3_notBring_11 rfl m_X3_isNot q2671 (C_X3_isNot h0) (by decide) (As := [_, _]) rfl rfl (Nat.le_of_ble_eq_true rfl) (Nat.zero_le _) (Nat.zero_le _) (mhas hA) (⟨_, _, _, _, _, _, _, hA, rfl, rfl, ?_⟩)
      exact z_iret G dX3_notBring_14 rfl rfl (by simpa [o_bring, isP, c_5, c_5b, nrv, nS] using hK)
def T_X3_brings : List Value → Hp → (Res → Hp → Prop) → Prop := fun av g K => ∃ (A : Nat → Nat) (S : Nat → Int32) (F : Nat → Nat → Int32) (w : Nat → Int32) (g0 : Hp) (p : Int32) (nb : Nat), mok A ∧ g = mdl A S F w g0 ∧ av = [.ref (A 0), .int p] ∧ w 3 = nI nb ∧ nb < 10 ∧ K (.inl (some (.int (nI nb)))) (mdl A S F (r_brg w p nb) g0)
theorem C_X3_brings {l : Launch} {s0 : State} (h0 : St0 l s0) : Ctr l s0 yX3_brings (ws_ yX3_brings cX3_brings 2 (Option.some Jvm.ClassFile.FieldType.int)) 1 0 0 T_X3_brings := by
  refine ctr_of h0 (by decide) ?_ ?_
  · rintro av g K ⟨A, S, F, w, g0, p, nb, hA, rfl, rfl, hp0, hp1, hK⟩
    exact Nat.le_of_ble_eq_true rfl
  · rintro Z X av g K G ⟨A, S, F, w, g0, p, nb, hA, rfl, rfl, hp0, hp1, hK⟩
    show Z 0 [some (.ref (A 0)), some (.int p)] [] _ _ _
    refine z_aload_n G dX3_brings_0 rfl rfl rfl ?_
    refine mz_get G hA dX3_brings_1 rfl (j := 7) fl_X3_16_2 rfl ?_
    refine z_bipush G dX3_brings_4 rfl (v := 12) (by decide) ?_
    refine z_aload_n G dX3_brings_6 rfl rfl rfl ?_
    refine mz_get G hA dX3_brings_7 rfl (j := 7) fl_X3_16_2 rfl ?_
    refine z_iconst G dX3_brings_10 rfl (v := 3) (by decide) ?_
    refine mz_wldN G hA dX3_brings_11 rfl (3) rfl (by decide) (nb) hp0 ?_
    refine z_iaddN G (12) (nb) rfl rfl dX3_brings_12 rfl ?_
    refine z_iload_n G dX3_brings_13 rfl rfl rfl ?_
    refine mz_wst G hA dX3_brings_14 rfl (12 + nb) rfl (by omega) ?_
    refine z_aload_n G dX3_brings_15 rfl rfl rfl ?_
    refine mz_get G hA dX3_brings_16 rfl (j := 7) fl_X3_16_2 rfl ?_
    refine z_iconst G dX3_brings_19 rfl (v := 3) (by decide) ?_
    refine z_dup2_11 G dX3_brings_20 rfl rfl rfl ?_
    refine mz_wldN G hA dX3_brings_21 rfl (3) rfl (by decide) (nb) ((upd_n (by omega)).trans hp0) ?_
    refine z_iconst G dX3_brings_22 rfl (v := 1) (by decide) ?_
    refine z_iaddN G (nb) (1) rfl rfl dX3_brings_23 rfl ?_
    refine mz_wst G hA dX3_brings_24 rfl (3) rfl (by decide) ?_
    refine z_aload_n G dX3_brings_25 rfl rfl rfl ?_
    refine mz_get G hA dX3_brings_26 rfl (j := 7) fl_X3_16_2 rfl ?_
    refine z_iconst G dX3_brings_29 rfl (v := 3) (by decide) ?_
    refine mz_wldN G hA dX3_brings_30 rfl (3) rfl (by decide) (nb + 1) upd_s ?_
    refine z_iconst G dX3_brings_31 rfl (v := 1) (by decide) ?_
    refine z_isubN G (nb + 1) (1) rfl rfl (by omega) dX3_brings_32 rfl ?_
    exact z_iret G dX3_brings_33 rfl rfl (by rw [Nat.add_sub_cancel]; exact hK)
def T_X3_bring : List Value → Hp → (Res → Hp → Prop) → Prop := fun av g K => ∃ (A : Nat → Nat) (S : Nat → Int32) (F : Nat → Nat → Int32) (w : Nat → Int32) (g0 : Hp) (c f : Nat) (p : Int32) (nb : Nat), mok A ∧ g = mdl A S F w g0 ∧ av = [.ref (A 0), .int p] ∧ S 11 = nI c ∧ c ≤ 8 ∧ S 12 = nI f ∧ f < 8 ∧ w 3 = nI nb ∧ nb ≤ 10 ∧ (o_bring w p nb = none → nb < 10) ∧ (∀ y, o_bring w p nb = some y → K (.inl (some (.int 0))) (mdl A (upd (nS (upd S 0 0) (some y)) 0 1) (m_ref (nS (upd S 0 0) (some y)) F) w g0)) ∧ (o_bring w p nb = none → K (.inl (some (.int (nI nb)))) (mdl A (m_kmS (upd S 0 0) c f) (m_rem F w c f upA) (r_brg w p nb) g0))
theorem C_X3_bring {l : Launch} {s0 : State} (h0 : St0 l s0) : Ctr l s0 yX3_bring (ws_ yX3_bring cX3_bring 2 (Option.some Jvm.ClassFile.FieldType.int)) 4 0 0 T_X3_bring := by
  refine ctr_of h0 (by decide) ?_ ?_
  · rintro av g K ⟨A, S, F, w, g0, c, f, p, nb, hA, rfl, rfl, hc0, hc1, hc2, hc3, hp0, hp1, hp2, hR, hK⟩
    exact Nat.le_of_ble_eq_true rfl
  · rintro Z X av g K G ⟨A, S, F, w, g0, c, f, p, nb, hA, rfl, rfl, hc0, hc1, hc2, hc3, hp0, hp1, hp2, hR, hK⟩
    show Z 0 [some (.ref (A 0)), some (.int p)] [] _ _ _
    refine z_aload_n G dX3_bring_0 rfl rfl rfl ?_
    refine z_iconst G dX3_bring_1 rfl (v := 0) (by decide) ?_
    refine mz_put G hA dX3_bring_2 rfl (j := 0) fl_X3_42_2p rfl rfl (by decide) rfl ?_
    refine z_aload_n G dX3_bring_5 rfl rfl rfl ?_
    refine z_iload_n G dX3_bring_6 rfl rfl rfl ?_
    refine z_V G dX3_bring_7 rfl m_X3_notBring q2707 (C_X3_notBring h0) (by decide) (As := [_]) rfl rfl (Nat.le_of_ble_eq_true rfl) (Nat.zero_le _) (Nat.zero_le _) (mhas hA) (⟨_, _, _, _, _, _, _, hA, rfl, rfl, (by first | assumption | decide | omega), (by first | assumption | decide | omega), ?_⟩)
    refine z_if_eq G dX3_bring_10 rfl (tgt := 18) (by decide) (fun c_10 => ?_) (fun c_10 => ?_)
    · have ho := nrv_0 c_10
      rw [ho]
      have hq := hp2 ho
      refine z_aload_n G dX3_bring_18 rfl rfl rfl ?_
      refine z_V G dX3_bring_19 rfl m_X3_remembers q2687 (C_X3_remembers h0) (by decide) (As := []) rfl rfl (Nat.le_of_ble_eq_true rfl) (Nat.zero_le _) (Nat.zero_le _) (mhas hA) (⟨_, _, _, _, _, _, _, hA, rfl, rfl, (by first | assumption | decide | omega), (by first | assumption | decide | omega), (by first | assumption | decide | omega), (by first | assumption | decide | omega), ?_⟩)
      refine z_aload_n G dX3_bring_22 rfl rfl rfl ?_
      refine z_iload_n G dX3_bring_23 rfl rfl rfl ?_
      refine z_V G dX3_bring_24 rfl m_X3_brings q2719 (C_X3_brings h0) (by decide) (As := [_]) rfl rfl (Nat.le_of_ble_eq_true rfl) (Nat.zero_le _) (Nat.zero_le _) (mhas hA) (⟨_, _, _, _, _, _, _, hA, rfl, rfl, (by first | assumption | decide | omega), (by first | assumption | decide | omega), ?_⟩)
      exact z_iret G dX3_bring_27 rfl rfl (hK ho)
    · obtain ⟨y, hy⟩ := nrv_n c_10
      rw [hy]
      refine z_aload_n G dX3_bring_13 rfl rfl rfl ?_
      refine z_V G dX3_bring_14 rfl m_X3_refuses q2675 (C_X3_refuses h0) (by decide) (As := []) rfl rfl (Nat.le_of_ble_eq_true rfl) (Nat.zero_le _) (Nat.zero_le _) (mhas hA) (⟨_, _, _, _, _, hA, rfl, rfl, ?_⟩)
      exact z_iret G dX3_bring_17 rfl rfl (hR y hy)
def T_X3_leavesBench : List Value → Hp → (Res → Hp → Prop) → Prop := fun av g K => ∃ (A : Nat → Nat) (S : Nat → Int32) (F : Nat → Nat → Int32) (w : Nat → Int32) (g0 : Hp) (pl n0 : Nat), mok A ∧ g = mdl A S F w g0 ∧ av = [.ref (A 0), .int (nI pl)] ∧ w 3 = nI n0 ∧ pl < n0 ∧ n0 ≤ 10 ∧ K (.inl none) (mdl A S F (r_lvb w n0 pl) g0)
theorem C_X3_leavesBench {l : Launch} {s0 : State} (h0 : St0 l s0) : Ctr l s0 yX3_leavesBench (ws_ yX3_leavesBench cX3_leavesBench 3 (Option.none : Option Jvm.ClassFile.FieldType)) 1 0 0 T_X3_leavesBench := by
  refine ctr_of h0 (by decide) ?_ ?_
  · rintro av g K ⟨A, S, F, w, g0, pl, n0, hA, rfl, rfl, hp0, hp1, hp2, hK⟩
    exact Nat.le_of_ble_eq_true rfl
  · rintro Z X av g K G ⟨A, S, F, w, g0, pl, n0, hA, rfl, rfl, hp0, hp1, hp2, hK⟩
    show Z 0 [some (.ref (A 0)), some (.int (nI pl)), none] [] _ _ _
    refine z_aload_n G dX3_leavesBench_0 rfl rfl rfl ?_
    refine mz_get G hA dX3_leavesBench_1 rfl (j := 7) fl_X3_16_2 rfl ?_
    refine z_iconst G dX3_leavesBench_4 rfl (v := 3) (by decide) ?_
    refine z_dup2_11 G dX3_leavesBench_5 rfl rfl rfl ?_
    refine mz_wldN G hA dX3_leavesBench_6 rfl (3) rfl (by decide) (n0) hp0 ?_
    refine z_iconst G dX3_leavesBench_7 rfl (v := 1) (by decide) ?_
    refine z_isubN G (n0) (1) rfl rfl (by omega) dX3_leavesBench_8 rfl ?_
    refine mz_wst G hA dX3_leavesBench_9 rfl (3) rfl (by decide) ?_
    refine z_iload_n G dX3_leavesBench_10 rfl rfl rfl ?_
    refine z_istore_n G dX3_leavesBench_11 rfl (i := 2) rfl (by decide) (zcat_s rfl) (show Z 12 [_, _, _] _ _ _ _ from ?_)
    have L12 : ∀ (n k : Nat) (w' : Nat → Int32), k + n = n0 - 1 → pl ≤ k → w' = r_shf (upd w 3 (nI (n0 - 1))) 12 pl k → Z 12 [some (.ref (A 0)), some (.int (nI pl)), some (.int (nI k))] [] (mdl A S F w' g0) 0 0 := by
      intro n
      induction n with
      | zero =>
        intro k w' hk h1 hw
        have h3 : w' 3 = nI (n0 - 1) := by rw [hw, shf_lo (by omega)]; exact upd_s
        refine z_iload_n G dX3_leavesBench_12 rfl rfl rfl ?_
        refine z_aload_n G dX3_leavesBench_13 rfl rfl rfl ?_
        refine mz_get G hA dX3_leavesBench_14 rfl (j := 7) fl_X3_16_2 rfl ?_
        refine z_iconst G dX3_leavesBench_17 rfl (v := 3) (by decide) ?_
        refine mz_wldN G hA dX3_leavesBench_18 rfl (3) rfl (by decide) (n0 - 1) h3 ?_
        refine z_icmp_ge G dX3_leavesBench_19 rfl (tgt := 48) (by decide) (fun c_19 => ?_) (fun c_19 => ?_)
        · have c_19n := Int32.not_lt.mpr c_19
          have c_19N := (nI_leI (a := n0 - 1) (b := k) (by omega) (by omega)).mp c_19
          refine z_aload_n G dX3_leavesBench_48 rfl rfl rfl ?_
          refine mz_get G hA dX3_leavesBench_49 rfl (j := 7) fl_X3_16_2 rfl ?_
          refine z_bipush G dX3_leavesBench_52 rfl (v := 12) (by decide) ?_
          refine z_aload_n G dX3_leavesBench_54 rfl rfl rfl ?_
          refine mz_get G hA dX3_leavesBench_55 rfl (j := 7) fl_X3_16_2 rfl ?_
          refine z_iconst G dX3_leavesBench_58 rfl (v := 3) (by decide) ?_
          refine mz_wldN G hA dX3_leavesBench_59 rfl (3) rfl (by decide) (n0 - 1) h3 ?_
          refine z_iaddN G (12) (n0 - 1) rfl rfl dX3_leavesBench_60 rfl ?_
          refine z_iconst G dX3_leavesBench_61 rfl (v := 0) (by decide) ?_
          refine mz_wst G hA dX3_leavesBench_62 rfl (12 + (n0 - 1)) rfl (by omega) ?_
          obtain rfl : k = n0 - 1 := by omega
          subst hw
          rw [shf_del]
          exact z_vret G dX3_leavesBench_63 rfl (hK)
        · exact absurd ((not_congr <| nI_leI (a := n0 - 1) (b := k) (by omega) (by omega)).mp c_19) (by omega)
      | succ n ih =>
        intro k w' hk h1 hw
        have h3 : w' 3 = nI (n0 - 1) := by rw [hw, shf_lo (by omega)]; exact upd_s
        refine z_iload_n G dX3_leavesBench_12 rfl rfl rfl ?_
        refine z_aload_n G dX3_leavesBench_13 rfl rfl rfl ?_
        refine mz_get G hA dX3_leavesBench_14 rfl (j := 7) fl_X3_16_2 rfl ?_
        refine z_iconst G dX3_leavesBench_17 rfl (v := 3) (by decide) ?_
        refine mz_wldN G hA dX3_leavesBench_18 rfl (3) rfl (by decide) (n0 - 1) h3 ?_
        refine z_icmp_ge G dX3_leavesBench_19 rfl (tgt := 48) (by decide) (fun c_19 => ?_) (fun c_19 => ?_)
        · exact absurd ((nI_leI (a := n0 - 1) (b := k) (by omega) (by omega)).mp c_19) (by omega)
        · have c_19n := Int32.not_le.mp c_19
          have c_19N := (not_congr <| nI_leI (a := n0 - 1) (b := k) (by omega) (by omega)).mp c_19
          refine z_aload_n G dX3_leavesBench_22 rfl rfl rfl ?_
          refine mz_get G hA dX3_leavesBench_23 rfl (j := 7) fl_X3_16_2 rfl ?_
          refine z_bipush G dX3_leavesBench_26 rfl (v := 12) (by decide) ?_
          refine z_iload_n G dX3_leavesBench_28 rfl rfl rfl ?_
          refine z_iaddN G (12) (k) rfl rfl dX3_leavesBench_29 rfl ?_
          refine z_aload_n G dX3_leavesBench_30 rfl rfl rfl ?_
          refine mz_get G hA dX3_leavesBench_31 rfl (j := 7) fl_X3_16_2 rfl ?_
          refine z_bipush G dX3_leavesBench_34 rfl (v := 12) (by decide) ?_
          refine z_iload_n G dX3_leavesBench_36 rfl rfl rfl ?_
          refine z_iaddN G (12) (k) rfl rfl dX3_leavesBench_37 rfl ?_
          refine z_iconst G dX3_leavesBench_38 rfl (v := 1) (by decide) ?_
          refine z_iaddN G (12 + k) (1) rfl rfl dX3_leavesBench_39 rfl ?_
          refine mz_wld G hA dX3_leavesBench_40 rfl (12 + k + 1) rfl (by omega) ?_
          refine mz_wst G hA dX3_leavesBench_41 rfl (12 + k) rfl (by omega) ?_
          refine z_iinc G dX3_leavesBench_42 rfl rfl (nI_1 _) (by decide) (zcat_s rfl) (show Z 45 [_, _, _] _ _ _ _ from ?_)
          refine z_goto G dX3_leavesBench_45 (tgt := 12) (by decide) ?_
          exact ih (k + 1) _ (by omega) (by omega) (by subst hw; rw [shf_lo (by omega), shf_s (by omega)])
    exact L12 (n0 - 1 - pl) pl _ (by omega) (Nat.le_refl _) (shf_0 _ _ _).symm
def T_X3_lumpGoes : List Value → Hp → (Res → Hp → Prop) → Prop := fun av g K => ∃ (A : Nat → Nat) (S : Nat → Int32) (F : Nat → Nat → Int32) (w : Nat → Int32) (g0 : Hp) (pl n0 : Nat), mok A ∧ g = mdl A S F w g0 ∧ av = [.ref (A 0), .int (nI pl)] ∧ w 4 = nI n0 ∧ pl < n0 ∧ n0 ≤ 20 ∧ K (.inl none) (mdl A S F (r_lgo w n0 pl) g0)
theorem C_X3_lumpGoes {l : Launch} {s0 : State} (h0 : St0 l s0) : Ctr l s0 yX3_lumpGoes (ws_ yX3_lumpGoes cX3_lumpGoes 3 (Option.none : Option Jvm.ClassFile.FieldType)) 1 0 0 T_X3_lumpGoes := by
  refine ctr_of h0 (by decide) ?_ ?_
  · rintro av g K ⟨A, S, F, w, g0, pl, n0, hA, rfl, rfl, hp0, hp1, hp2, hK⟩
    exact Nat.le_of_ble_eq_true rfl
  · rintro Z X av g K G ⟨A, S, F, w, g0, pl, n0, hA, rfl, rfl, hp0, hp1, hp2, hK⟩
    show Z 0 [some (.ref (A 0)), some (.int (nI pl)), none] [] _ _ _
    refine z_aload_n G dX3_lumpGoes_0 rfl rfl rfl ?_
    refine mz_get G hA dX3_lumpGoes_1 rfl (j := 7) fl_X3_16_2 rfl ?_
    refine z_iconst G dX3_lumpGoes_4 rfl (v := 4) (by decide) ?_
    refine z_dup2_11 G dX3_lumpGoes_5 rfl rfl rfl ?_
    refine mz_wldN G hA dX3_lumpGoes_6 rfl (4) rfl (by decide) (n0) hp0 ?_
    refine z_iconst G dX3_lumpGoes_7 rfl (v := 1) (by decide) ?_
    refine z_isubN G (n0) (1) rfl rfl (by omega) dX3_lumpGoes_8 rfl ?_
    refine mz_wst G hA dX3_lumpGoes_9 rfl (4) rfl (by decide) ?_
    refine z_iload_n G dX3_lumpGoes_10 rfl rfl rfl ?_
    refine z_istore_n G dX3_lumpGoes_11 rfl (i := 2) rfl (by decide) (zcat_s rfl) (show Z 12 [_, _, _] _ _ _ _ from ?_)
    have L12 : ∀ (n k : Nat) (w' : Nat → Int32), k + n = n0 - 1 → pl ≤ k → w' = r_shf (upd w 4 (nI (n0 - 1))) 22 pl k → Z 12 [some (.ref (A 0)), some (.int (nI pl)), some (.int (nI k))] [] (mdl A S F w' g0) 0 0 := by
      intro n
      induction n with
      | zero =>
        intro k w' hk h1 hw
        have h3 : w' 4 = nI (n0 - 1) := by rw [hw, shf_lo (by omega)]; exact upd_s
        refine z_iload_n G dX3_lumpGoes_12 rfl rfl rfl ?_
        refine z_aload_n G dX3_lumpGoes_13 rfl rfl rfl ?_
        refine mz_get G hA dX3_lumpGoes_14 rfl (j := 7) fl_X3_16_2 rfl ?_
        refine z_iconst G dX3_lumpGoes_17 rfl (v := 4) (by decide) ?_
        refine mz_wldN G hA dX3_lumpGoes_18 rfl (4) rfl (by decide) (n0 - 1) h3 ?_
        refine z_icmp_ge G dX3_lumpGoes_19 rfl (tgt := 48) (by decide) (fun c_19 => ?_) (fun c_19 => ?_)
        · have c_19n := Int32.not_lt.mpr c_19
          have c_19N := (nI_leI (a := n0 - 1) (b := k) (by omega) (by omega)).mp c_19
          refine z_aload_n G dX3_lumpGoes_48 rfl rfl rfl ?_
          refine mz_get G hA dX3_lumpGoes_49 rfl (j := 7) fl_X3_16_2 rfl ?_
          refine z_bipush G dX3_lumpGoes_52 rfl (v := 22) (by decide) ?_
          refine z_aload_n G dX3_lumpGoes_54 rfl rfl rfl ?_
          refine mz_get G hA dX3_lumpGoes_55 rfl (j := 7) fl_X3_16_2 rfl ?_
          refine z_iconst G dX3_lumpGoes_58 rfl (v := 4) (by decide) ?_
          refine mz_wldN G hA dX3_lumpGoes_59 rfl (4) rfl (by decide) (n0 - 1) h3 ?_
          refine z_iaddN G (22) (n0 - 1) rfl rfl dX3_lumpGoes_60 rfl ?_
          refine z_iconst G dX3_lumpGoes_61 rfl (v := 0) (by decide) ?_
          refine mz_wst G hA dX3_lumpGoes_62 rfl (22 + (n0 - 1)) rfl (by omega) ?_
          obtain rfl : k = n0 - 1 := by omega
          subst hw
          rw [shf_del]
          exact z_vret G dX3_lumpGoes_63 rfl (hK)
        · exact absurd ((not_congr <| nI_leI (a := n0 - 1) (b := k) (by omega) (by omega)).mp c_19) (by omega)
      | succ n ih =>
        intro k w' hk h1 hw
        have h3 : w' 4 = nI (n0 - 1) := by rw [hw, shf_lo (by omega)]; exact upd_s
        refine z_iload_n G dX3_lumpGoes_12 rfl rfl rfl ?_
        refine z_aload_n G dX3_lumpGoes_13 rfl rfl rfl ?_
        refine mz_get G hA dX3_lumpGoes_14 rfl (j := 7) fl_X3_16_2 rfl ?_
        refine z_iconst G dX3_lumpGoes_17 rfl (v := 4) (by decide) ?_
        refine mz_wldN G hA dX3_lumpGoes_18 rfl (4) rfl (by decide) (n0 - 1) h3 ?_
        refine z_icmp_ge G dX3_lumpGoes_19 rfl (tgt := 48) (by decide) (fun c_19 => ?_) (fun c_19 => ?_)
        · exact absurd ((nI_leI (a := n0 - 1) (b := k) (by omega) (by omega)).mp c_19) (by omega)
        · have c_19n := Int32.not_le.mp c_19
          have c_19N := (not_congr <| nI_leI (a := n0 - 1) (b := k) (by omega) (by omega)).mp c_19
          refine z_aload_n G dX3_lumpGoes_22 rfl rfl rfl ?_
          refine mz_get G hA dX3_lumpGoes_23 rfl (j := 7) fl_X3_16_2 rfl ?_
          refine z_bipush G dX3_lumpGoes_26 rfl (v := 22) (by decide) ?_
          refine z_iload_n G dX3_lumpGoes_28 rfl rfl rfl ?_
          refine z_iaddN G (22) (k) rfl rfl dX3_lumpGoes_29 rfl ?_
          refine z_aload_n G dX3_lumpGoes_30 rfl rfl rfl ?_
          refine mz_get G hA dX3_lumpGoes_31 rfl (j := 7) fl_X3_16_2 rfl ?_
          refine z_bipush G dX3_lumpGoes_34 rfl (v := 22) (by decide) ?_
          refine z_iload_n G dX3_lumpGoes_36 rfl rfl rfl ?_
          refine z_iaddN G (22) (k) rfl rfl dX3_lumpGoes_37 rfl ?_
          refine z_iconst G dX3_lumpGoes_38 rfl (v := 1) (by decide) ?_
          refine z_iaddN G (22 + k) (1) rfl rfl dX3_lumpGoes_39 rfl ?_
          refine mz_wld G hA dX3_lumpGoes_40 rfl (22 + k + 1) rfl (by omega) ?_
          refine mz_wst G hA dX3_lumpGoes_41 rfl (22 + k) rfl (by omega) ?_
          refine z_iinc G dX3_lumpGoes_42 rfl rfl (nI_1 _) (by decide) (zcat_s rfl) (show Z 45 [_, _, _] _ _ _ _ from ?_)
          refine z_goto G dX3_lumpGoes_45 (tgt := 12) (by decide) ?_
          exact ih (k + 1) _ (by omega) (by omega) (by subst hw; rw [shf_lo (by omega), shf_s (by omega)])
    exact L12 (n0 - 1 - pl) pl _ (by omega) (Nat.le_refl _) (shf_0 _ _ _).symm
def T_X3_notTakeBack : List Value → Hp → (Res → Hp → Prop) → Prop := fun av g K => ∃ (A : Nat → Nat) (S : Nat → Int32) (F : Nat → Nat → Int32) (w : Nat → Int32) (g0 : Hp) (p : Int32) (nb : Nat), mok A ∧ g = mdl A S F w g0 ∧ av = [.ref (A 0), .int p] ∧ w 3 = nI nb ∧ nb ≤ 10 ∧ K (.inl (some (.int (nrv (o_back w p nb))))) (mdl A (nS S (o_back w p nb)) F w g0)
theorem C_X3_notTakeBack {l : Launch} {s0 : State} (h0 : St0 l s0) : Ctr l s0 yX3_notTakeBack (ws_ yX3_notTakeBack cX3_notTakeBack 2 (Option.some Jvm.ClassFile.FieldType.int)) 3 0 0 T_X3_notTakeBack := by
  refine ctr_of h0 (by decide) ?_ ?_
  · rintro av g K ⟨A, S, F, w, g0, p, nb, hA, rfl, rfl, hp0, hp1, hK⟩
    exact Nat.le_of_ble_eq_true rfl
  · rintro Z X av g K G ⟨A, S, F, w, g0, p, nb, hA, rfl, rfl, hp0, hp1, hK⟩
    show Z 0 [some (.ref (A 0)), some (.int p)] [] _ _ _
    refine z_aload_n G dX3_notTakeBack_0 rfl rfl rfl ?_
    refine z_iload_n G dX3_notTakeBack_1 rfl rfl rfl ?_
    refine z_V G dX3_notTakeBack_2 rfl m_X3_isPipe q2711 (C_X3_isPipe h0) (by decide) (As := [_]) rfl rfl (Nat.le_of_ble_eq_true rfl) (Nat.zero_le _) (Nat.zero_le _) (mhas hA) (⟨_, _, _, _, _, _, hA, rfl, rfl, ?_⟩)
    refine z_if_ne G dX3_notTakeBack_5 rfl (tgt := 15) (by decide) (fun c_5 => ?_) (fun c_5 => ?_)
    · have c_5b := bI_t c_5
      refine z_aload_n G dX3_notTakeBack_15 rfl rfl rfl ?_
      refine z_iload_n G dX3_notTakeBack_16 rfl rfl rfl ?_
      refine z_V G dX3_notTakeBack_17 rfl m_X3_placeOf q2715 (C_X3_placeOf h0) (by decide) (As := [_]) rfl rfl (Nat.le_of_ble_eq_true rfl) (Nat.zero_le _) (Nat.zero_le _) (mhas hA) (⟨_, _, _, _, _, _, _, hA, rfl, rfl, (by first | assumption | decide | omega), (by first | assumption | decide | omega), ?_⟩)
      refine z_if_ge G dX3_notTakeBack_20 rfl (tgt := 33) (by decide) (fun c_20 => ?_) (fun c_20 => ?_)
      · have c_20n := Int32.not_lt.mpr c_20
        refine z_iconst G dX3_notTakeBack_33 rfl (v := 0) (by decide) ?_
        exact z_iret G dX3_notTakeBack_34 rfl rfl (by simpa [o_back, isP, c_5, c_5b, c_20, c_20n, nrv, nS] using hK)
      · have c_20n := Int32.not_le.mp c_20
        refine z_aload_n G dX3_notTakeBack_23 rfl rfl rfl ?_
        refine z_bipush G dX3_notTakeBack_24 rfl (v := 6) (by decide) ?_
        refine z_iload_n G dX3_notTakeBack_26 rfl rfl rfl ?_
        refine z_V G dX3_notTakeBack_27 rfl m_X3_isNot q2671 (C_X3_isNot h0) (by decide) (As := [_, _]) rfl rfl (Nat.le_of_ble_eq_true rfl) (Nat.zero_le _) (Nat.zero_le _) (mhas hA) (⟨_, _, _, _, _, _, _, hA, rfl, rfl, ?_⟩)
        refine z_goto G dX3_notTakeBack_30 (tgt := 34) (by decide) ?_
        exact z_iret G dX3_notTakeBack_34 rfl rfl (by simpa [o_back, isP, c_5, c_5b, c_20, c_20n, nrv, nS] using hK)
    · have c_5b := bI_f c_5
      refine z_aload_n G dX3_notTakeBack_8 rfl rfl rfl ?_
      refine z_iconst G dX3_notTakeBack_9 rfl (v := 1) (by decide) ?_
      refine z_iload_n G dX3_notTakeBack_10 rfl rfl rfl ?_
      refine z_V G dX3_notTakeBack_11 rfl m_X3_isNot q2671 (C_X3_isNot h0) (by decide) (As := [_, _]) rfl rfl (Nat.le_of_ble_eq_true rfl) (Nat.zero_le _) (Nat.zero_le _) (mhas hA) (⟨_, _, _, _, _, _, _, hA, rfl, rfl, ?_⟩)
      exact z_iret G dX3_notTakeBack_14 rfl rfl (by simpa [o_back, isP, c_5, c_5b, nrv, nS] using hK)
def T_X3_takeBack : List Value → Hp → (Res → Hp → Prop) → Prop := fun av g K => ∃ (A : Nat → Nat) (S : Nat → Int32) (F : Nat → Nat → Int32) (w : Nat → Int32) (g0 : Hp) (c f : Nat) (p : Int32) (nb pl : Nat), mok A ∧ g = mdl A S F w g0 ∧ av = [.ref (A 0), .int p] ∧ S 11 = nI c ∧ c ≤ 8 ∧ S 12 = nI f ∧ f < 8 ∧ w 3 = nI nb ∧ nb ≤ 10 ∧ (o_back w p nb = none → r_find w p nb 0 = nI pl ∧ pl < nb) ∧ (∀ y, o_back w p nb = some y → K (.inl (some (.int 0))) (mdl A (upd (nS (upd S 0 0) (some y)) 0 1) (m_ref (nS (upd S 0 0) (some y)) F) w g0)) ∧ (o_back w p nb = none → K (.inl (some (.int (nI pl)))) (mdl A (m_kmS (upd S 0 0) c f) (m_rem F w c f upA) (r_lvb w nb pl) g0))
theorem C_X3_takeBack {l : Launch} {s0 : State} (h0 : St0 l s0) : Ctr l s0 yX3_takeBack (ws_ yX3_takeBack cX3_takeBack 3 (Option.some Jvm.ClassFile.FieldType.int)) 4 0 0 T_X3_takeBack := by
  refine ctr_of h0 (by decide) ?_ ?_
  · rintro av g K ⟨A, S, F, w, g0, c, f, p, nb, pl, hA, rfl, rfl, hc0, hc1, hc2, hc3, hp0, hp1, hp2, hR, hK⟩
    exact Nat.le_of_ble_eq_true rfl
  · rintro Z X av g K G ⟨A, S, F, w, g0, c, f, p, nb, pl, hA, rfl, rfl, hc0, hc1, hc2, hc3, hp0, hp1, hp2, hR, hK⟩
    show Z 0 [some (.ref (A 0)), some (.int p), none] [] _ _ _
    refine z_aload_n G dX3_takeBack_0 rfl rfl rfl ?_
    refine z_iconst G dX3_takeBack_1 rfl (v := 0) (by decide) ?_
    refine mz_put G hA dX3_takeBack_2 rfl (j := 0) fl_X3_42_2p rfl rfl (by decide) rfl ?_
    refine z_aload_n G dX3_takeBack_5 rfl rfl rfl ?_
    refine z_iload_n G dX3_takeBack_6 rfl rfl rfl ?_
    refine z_V G dX3_takeBack_7 rfl m_X3_notTakeBack q2727 (C_X3_notTakeBack h0) (by decide) (As := [_]) rfl rfl (Nat.le_of_ble_eq_true rfl) (Nat.zero_le _) (Nat.zero_le _) (mhas hA) (⟨_, _, _, _, _, _, _, hA, rfl, rfl, (by first | assumption | decide | omega), (by first | assumption | decide | omega), ?_⟩)
    refine z_if_eq G dX3_takeBack_10 rfl (tgt := 18) (by decide) (fun c_10 => ?_) (fun c_10 => ?_)
    · have ho := nrv_0 c_10
      rw [ho]
      have hq := hp2 ho
      have hq1 := hq.2
      refine z_aload_n G dX3_takeBack_18 rfl rfl rfl ?_
      refine z_V G dX3_takeBack_19 rfl m_X3_remembers q2687 (C_X3_remembers h0) (by decide) (As := []) rfl rfl (Nat.le_of_ble_eq_true rfl) (Nat.zero_le _) (Nat.zero_le _) (mhas hA) (⟨_, _, _, _, _, _, _, hA, rfl, rfl, (by first | assumption | decide | omega), (by first | assumption | decide | omega), (by first | assumption | decide | omega), (by first | assumption | decide | omega), ?_⟩)
      refine z_aload_n G dX3_takeBack_22 rfl rfl rfl ?_
      refine z_iload_n G dX3_takeBack_23 rfl rfl rfl ?_
      refine z_V G dX3_takeBack_24 rfl m_X3_placeOf q2715 (C_X3_placeOf h0) (by decide) (As := [_]) rfl rfl (Nat.le_of_ble_eq_true rfl) (Nat.zero_le _) (Nat.zero_le _) (mhas hA) (⟨_, _, _, _, _, _, _, hA, rfl, rfl, (by first | assumption | decide | omega), (by first | assumption | decide | omega), ?_⟩)
      rw [hq.1]
      refine z_istore_n G dX3_takeBack_27 rfl (i := 2) rfl (by decide) (zcat_s rfl) (show Z 28 [_, _, _] _ _ _ _ from ?_)
      refine z_aload_n G dX3_takeBack_28 rfl rfl rfl ?_
      refine z_iload_n G dX3_takeBack_29 rfl rfl rfl ?_
      refine z_V G dX3_takeBack_30 rfl m_X3_leavesBench q2731 (C_X3_leavesBench h0) (by decide) (As := [_]) rfl rfl (Nat.le_of_ble_eq_true rfl) (Nat.zero_le _) (Nat.zero_le _) (mhas hA) (⟨_, _, _, _, _, _, _, hA, rfl, rfl, (by first | assumption | decide | omega), (by first | assumption | decide | omega), (by first | assumption | decide | omega), ?_⟩)
      refine z_iload_n G dX3_takeBack_33 rfl rfl rfl ?_
      exact z_iret G dX3_takeBack_34 rfl rfl (hK ho)
    · obtain ⟨y, hy⟩ := nrv_n c_10
      rw [hy]
      refine z_aload_n G dX3_takeBack_13 rfl rfl rfl ?_
      refine z_V G dX3_takeBack_14 rfl m_X3_refuses q2675 (C_X3_refuses h0) (by decide) (As := []) rfl rfl (Nat.le_of_ble_eq_true rfl) (Nat.zero_le _) (Nat.zero_le _) (mhas hA) (⟨_, _, _, _, _, hA, rfl, rfl, ?_⟩)
      exact z_iret G dX3_takeBack_17 rfl rfl (hR y hy)
def T_X3_notPlace : List Value → Hp → (Res → Hp → Prop) → Prop := fun av g K => ∃ (A : Nat → Nat) (S : Nat → Int32) (F : Nat → Nat → Int32) (w : Nat → Int32) (g0 : Hp) (p : Int32), mok A ∧ g = mdl A S F w g0 ∧ av = [.ref (A 0), .int p] ∧ K (.inl (some (.int (nrv (o_place w p))))) (mdl A (nS S (o_place w p)) F w g0)
theorem C_X3_notPlace {l : Launch} {s0 : State} (h0 : St0 l s0) : Ctr l s0 yX3_notPlace (ws_ yX3_notPlace cX3_notPlace 2 (Option.some Jvm.ClassFile.FieldType.int)) 2 0 0 T_X3_notPlace := by
  refine ctr_of h0 (by decide) ?_ ?_
  · rintro av g K ⟨A, S, F, w, g0, p, hA, rfl, rfl, hK⟩
    exact Nat.le_of_ble_eq_true rfl
  · rintro Z X av g K G ⟨A, S, F, w, g0, p, hA, rfl, rfl, hK⟩
    show Z 0 [some (.ref (A 0)), some (.int p)] [] _ _ _
    refine z_iload_n G dX3_notPlace_0 rfl rfl rfl ?_
    refine z_iconst G dX3_notPlace_1 rfl (v := 0) (by decide) ?_
    refine z_aload_n G dX3_notPlace_2 rfl rfl rfl ?_
    refine mz_get G hA dX3_notPlace_3 rfl (j := 7) fl_X3_16_2 rfl ?_
    refine z_iconst G dX3_notPlace_6 rfl (v := 3) (by decide) ?_
    refine mz_wld G hA dX3_notPlace_7 rfl (3) rfl (by decide) ?_
    refine z_iconst G dX3_notPlace_8 rfl (v := 1) (by decide) ?_
    refine z_isub G dX3_notPlace_9 rfl ?_
    refine z_S G dX3_notPlace_10 rfl m_X3_isBetween q2668 (C_X3_isBetween h0) (by decide) (As := [_, _, _]) rfl rfl (Nat.le_of_ble_eq_true rfl) (Nat.zero_le _) (Nat.zero_le _) (⟨_, _, _, rfl, ?_⟩)
    refine z_if_eq G dX3_notPlace_13 rfl (tgt := 20) (by decide) (fun c_13 => ?_) (fun c_13 => ?_)
    · have c_13b := bI_f c_13
      refine z_aload_n G dX3_notPlace_20 rfl rfl rfl ?_
      refine z_bipush G dX3_notPlace_21 rfl (v := 17) (by decide) ?_
      refine z_iload_n G dX3_notPlace_23 rfl rfl rfl ?_
      refine z_V G dX3_notPlace_24 rfl m_X3_isNot q2671 (C_X3_isNot h0) (by decide) (As := [_, _]) rfl rfl (Nat.le_of_ble_eq_true rfl) (Nat.zero_le _) (Nat.zero_le _) (mhas hA) (⟨_, _, _, _, _, _, _, hA, rfl, rfl, ?_⟩)
      exact z_iret G dX3_notPlace_27 rfl rfl (by simpa [o_place, isP, c_13, c_13b, nrv, nS] using hK)
    · have c_13b := bI_t c_13
      refine z_iconst G dX3_notPlace_16 rfl (v := 0) (by decide) ?_
      refine z_goto G dX3_notPlace_17 (tgt := 27) (by decide) ?_
      exact z_iret G dX3_notPlace_27 rfl rfl (by simpa [o_place, isP, c_13, c_13b, nrv, nS] using hK)
def T_X3_exchange : List Value → Hp → (Res → Hp → Prop) → Prop := fun av g K => ∃ (A : Nat → Nat) (S : Nat → Int32) (F : Nat → Nat → Int32) (w : Nat → Int32) (g0 : Hp) (c f : Nat) (a b : Int32) (i j : Nat), mok A ∧ g = mdl A S F w g0 ∧ av = [.ref (A 0), .int a, .int b] ∧ S 11 = nI c ∧ c ≤ 8 ∧ S 12 = nI f ∧ f < 8 ∧ (o_exc w a b = none → a = nI i ∧ b = nI j ∧ i < 10 ∧ j < 10) ∧ (∀ y, o_exc w a b = some y → K (.inl (some (.int 0))) (mdl A (upd (nS (upd S 0 0) (some y)) 0 1) (m_ref (nS (upd S 0 0) (some y)) F) w g0)) ∧ (o_exc w a b = none → K (.inl (some (.int ((r_exc w i j) (12 + i))))) (mdl A (m_kmS (upd S 0 0) c f) (m_rem F w c f upA) (r_exc w i j) g0))
theorem C_X3_exchange {l : Launch} {s0 : State} (h0 : St0 l s0) : Ctr l s0 yX3_exchange (ws_ yX3_exchange cX3_exchange 4 (Option.some Jvm.ClassFile.FieldType.int)) 3 0 0 T_X3_exchange := by
  refine ctr_of h0 (by decide) ?_ ?_
  · rintro av g K ⟨A, S, F, w, g0, c, f, a, b, i, j, hA, rfl, rfl, hc0, hc1, hc2, hc3, hp0, hR, hK⟩
    exact Nat.le_of_ble_eq_true rfl
  · rintro Z X av g K G ⟨A, S, F, w, g0, c, f, a, b, i, j, hA, rfl, rfl, hc0, hc1, hc2, hc3, hp0, hR, hK⟩
    show Z 0 [some (.ref (A 0)), some (.int a), some (.int b), none] [] _ _ _
    refine z_aload_n G dX3_exchange_0 rfl rfl rfl ?_
    refine z_iconst G dX3_exchange_1 rfl (v := 0) (by decide) ?_
    refine mz_put G hA dX3_exchange_2 rfl (j := 0) fl_X3_42_2p rfl rfl (by decide) rfl ?_
    refine z_aload_n G dX3_exchange_5 rfl rfl rfl ?_
    refine z_iload_n G dX3_exchange_6 rfl rfl rfl ?_
    refine z_V G dX3_exchange_7 rfl m_X3_notPlace q2739 (C_X3_notPlace h0) (by decide) (As := [_]) rfl rfl (Nat.le_of_ble_eq_true rfl) (Nat.zero_le _) (Nat.zero_le _) (mhas hA) (⟨_, _, _, _, _, _, hA, rfl, rfl, ?_⟩)
    refine z_if_ne G dX3_exchange_10 rfl (tgt := 21) (by decide) (fun c_10 => ?_) (fun c_10 => ?_)
    · obtain ⟨y, hy0⟩ := nrv_n c_10
      have hy : o_exc w a b = some y := by simp only [o_exc, hy0]
      rw [hy0]
      refine z_aload_n G dX3_exchange_21 rfl rfl rfl ?_
      refine z_V G dX3_exchange_22 rfl m_X3_refuses q2675 (C_X3_refuses h0) (by decide) (As := []) rfl rfl (Nat.le_of_ble_eq_true rfl) (Nat.zero_le _) (Nat.zero_le _) (mhas hA) (⟨_, _, _, _, _, hA, rfl, rfl, ?_⟩)
      exact z_iret G dX3_exchange_25 rfl rfl (hR y hy)
    · have ho1 := nrv_0 c_10
      rw [ho1]
      refine z_aload_n G dX3_exchange_13 rfl rfl rfl ?_
      refine z_iload_n G dX3_exchange_14 rfl rfl rfl ?_
      refine z_V G dX3_exchange_15 rfl m_X3_notPlace q2739 (C_X3_notPlace h0) (by decide) (As := [_]) rfl rfl (Nat.le_of_ble_eq_true rfl) (Nat.zero_le _) (Nat.zero_le _) (mhas hA) (⟨_, _, _, _, _, _, hA, rfl, rfl, ?_⟩)
      refine z_if_eq G dX3_exchange_18 rfl (tgt := 26) (by decide) (fun c_18 => ?_) (fun c_18 => ?_)
      · have ho2 := nrv_0 c_18
        have ho : o_exc w a b = none := by simp only [o_exc, ho1, ho2]
        rw [ho2]
        obtain ⟨rfl, rfl, hi, hj⟩ := hp0 ho
        refine z_aload_n G dX3_exchange_26 rfl rfl rfl ?_
        refine z_V G dX3_exchange_27 rfl m_X3_remembers q2687 (C_X3_remembers h0) (by decide) (As := []) rfl rfl (Nat.le_of_ble_eq_true rfl) (Nat.zero_le _) (Nat.zero_le _) (mhas hA) (⟨_, _, _, _, _, _, _, hA, rfl, rfl, (by first | assumption | decide | omega), (by first | assumption | decide | omega), (by first | assumption | decide | omega), (by first | assumption | decide | omega), ?_⟩)
        refine z_aload_n G dX3_exchange_30 rfl rfl rfl ?_
        refine mz_get G hA dX3_exchange_31 rfl (j := 7) fl_X3_16_2 rfl ?_
        refine z_bipush G dX3_exchange_34 rfl (v := 12) (by decide) ?_
        refine z_iload_n G dX3_exchange_36 rfl rfl rfl ?_
        refine z_iaddN G (12) (i) rfl rfl dX3_exchange_37 rfl ?_
        refine mz_wld G hA dX3_exchange_38 rfl (12 + i) rfl (by omega) ?_
        refine z_istore_n G dX3_exchange_39 rfl (i := 3) rfl (by decide) (zcat_s rfl) (show Z 40 [_, _, _, _] _ _ _ _ from ?_)
        refine z_aload_n G dX3_exchange_40 rfl rfl rfl ?_
        refine mz_get G hA dX3_exchange_41 rfl (j := 7) fl_X3_16_2 rfl ?_
        refine z_bipush G dX3_exchange_44 rfl (v := 12) (by decide) ?_
        refine z_iload_n G dX3_exchange_46 rfl rfl rfl ?_
        refine z_iaddN G (12) (i) rfl rfl dX3_exchange_47 rfl ?_
        refine z_aload_n G dX3_exchange_48 rfl rfl rfl ?_
        refine mz_get G hA dX3_exchange_49 rfl (j := 7) fl_X3_16_2 rfl ?_
        refine z_bipush G dX3_exchange_52 rfl (v := 12) (by decide) ?_
        refine z_iload_n G dX3_exchange_54 rfl rfl rfl ?_
        refine z_iaddN G (12) (j) rfl rfl dX3_exchange_55 rfl ?_
        refine mz_wld G hA dX3_exchange_56 rfl (12 + j) rfl (by omega) ?_
        refine mz_wst G hA dX3_exchange_57 rfl (12 + i) rfl (by omega) ?_
        refine z_aload_n G dX3_exchange_58 rfl rfl rfl ?_
        refine mz_get G hA dX3_exchange_59 rfl (j := 7) fl_X3_16_2 rfl ?_
        refine z_bipush G dX3_exchange_62 rfl (v := 12) (by decide) ?_
        refine z_iload_n G dX3_exchange_64 rfl rfl rfl ?_
        refine z_iaddN G (12) (j) rfl rfl dX3_exchange_65 rfl ?_
        refine z_iload_n G dX3_exchange_66 rfl rfl rfl ?_
        refine mz_wst G hA dX3_exchange_67 rfl (12 + j) rfl (by omega) ?_
        refine z_aload_n G dX3_exchange_68 rfl rfl rfl ?_
        refine mz_get G hA dX3_exchange_69 rfl (j := 7) fl_X3_16_2 rfl ?_
        refine z_bipush G dX3_exchange_72 rfl (v := 12) (by decide) ?_
        refine z_iload_n G dX3_exchange_74 rfl rfl rfl ?_
        refine z_iaddN G (12) (i) rfl rfl dX3_exchange_75 rfl ?_
        refine mz_wld G hA dX3_exchange_76 rfl (12 + i) rfl (by omega) ?_
        exact z_iret G dX3_exchange_77 rfl rfl (hK ho)
      · obtain ⟨y, hy0⟩ := nrv_n c_18
        have hy : o_exc w a b = some y := by simp only [o_exc, ho1, hy0]
        rw [hy0]
        refine z_aload_n G dX3_exchange_21 rfl rfl rfl ?_
        refine z_V G dX3_exchange_22 rfl m_X3_refuses q2675 (C_X3_refuses h0) (by decide) (As := []) rfl rfl (Nat.le_of_ble_eq_true rfl) (Nat.zero_le _) (Nat.zero_le _) (mhas hA) (⟨_, _, _, _, _, hA, rfl, rfl, ?_⟩)
        exact z_iret G dX3_exchange_25 rfl rfl (hR y hy)
def T_X3_notLump : List Value → Hp → (Res → Hp → Prop) → Prop := fun av g K => ∃ (A : Nat → Nat) (S : Nat → Int32) (F : Nat → Nat → Int32) (w : Nat → Int32) (g0 : Hp) (v : Int32), mok A ∧ g = mdl A S F w g0 ∧ av = [.ref (A 0), .int v] ∧ K (.inl (some (.int (nrv (o_lump w v))))) (mdl A (nS S (o_lump w v)) F w g0)
theorem C_X3_notLump {l : Launch} {s0 : State} (h0 : St0 l s0) : Ctr l s0 yX3_notLump (ws_ yX3_notLump cX3_notLump 2 (Option.some Jvm.ClassFile.FieldType.int)) 2 0 0 T_X3_notLump := by
  refine ctr_of h0 (by decide) ?_ ?_
  · rintro av g K ⟨A, S, F, w, g0, v, hA, rfl, rfl, hK⟩
    exact Nat.le_of_ble_eq_true rfl
  · rintro Z X av g K G ⟨A, S, F, w, g0, v, hA, rfl, rfl, hK⟩
    show Z 0 [some (.ref (A 0)), some (.int v)] [] _ _ _
    refine z_iload_n G dX3_notLump_0 rfl rfl rfl ?_
    refine z_iconst G dX3_notLump_1 rfl (v := 1) (by decide) ?_
    refine z_bipush G dX3_notLump_2 rfl (v := 20) (by decide) ?_
    refine z_S G dX3_notLump_4 rfl m_X3_isBetween q2668 (C_X3_isBetween h0) (by decide) (As := [_, _, _]) rfl rfl (Nat.le_of_ble_eq_true rfl) (Nat.zero_le _) (Nat.zero_le _) (⟨_, _, _, rfl, ?_⟩)
    refine z_if_ne G dX3_notLump_7 rfl (tgt := 17) (by decide) (fun c_7 => ?_) (fun c_7 => ?_)
    · have c_7b := bI_t c_7
      refine z_aload_n G dX3_notLump_17 rfl rfl rfl ?_
      refine mz_get G hA dX3_notLump_18 rfl (j := 7) fl_X3_16_2 rfl ?_
      refine z_iconst G dX3_notLump_21 rfl (v := 4) (by decide) ?_
      refine mz_wld G hA dX3_notLump_22 rfl (4) rfl (by decide) ?_
      refine z_bipush G dX3_notLump_23 rfl (v := 20) (by decide) ?_
      refine z_icmp_ne G dX3_notLump_25 rfl (tgt := 38) (by decide) (fun c_25 => ?_) (fun c_25 => ?_)
      · refine z_iconst G dX3_notLump_38 rfl (v := 0) (by decide) ?_
        exact z_iret G dX3_notLump_39 rfl rfl (by simpa [o_lump, isP, c_7, c_7b, c_25, nrv, nS] using hK)
      · refine z_aload_n G dX3_notLump_28 rfl rfl rfl ?_
        refine z_iconst G dX3_notLump_29 rfl (v := 4) (by decide) ?_
        refine z_bipush G dX3_notLump_30 rfl (v := 20) (by decide) ?_
        refine z_V G dX3_notLump_32 rfl m_X3_isNot q2671 (C_X3_isNot h0) (by decide) (As := [_, _]) rfl rfl (Nat.le_of_ble_eq_true rfl) (Nat.zero_le _) (Nat.zero_le _) (mhas hA) (⟨_, _, _, _, _, _, _, hA, rfl, rfl, ?_⟩)
        refine z_goto G dX3_notLump_35 (tgt := 39) (by decide) ?_
        exact z_iret G dX3_notLump_39 rfl rfl (by simpa [o_lump, isP, c_7, c_7b, c_25, nrv, nS] using hK)
    · have c_7b := bI_f c_7
      refine z_aload_n G dX3_notLump_10 rfl rfl rfl ?_
      refine z_iconst G dX3_notLump_11 rfl (v := 3) (by decide) ?_
      refine z_iload_n G dX3_notLump_12 rfl rfl rfl ?_
      refine z_V G dX3_notLump_13 rfl m_X3_isNot q2671 (C_X3_isNot h0) (by decide) (As := [_, _]) rfl rfl (Nat.le_of_ble_eq_true rfl) (Nat.zero_le _) (Nat.zero_le _) (mhas hA) (⟨_, _, _, _, _, _, _, hA, rfl, rfl, ?_⟩)
      exact z_iret G dX3_notLump_16 rfl rfl (by simpa [o_lump, isP, c_7, c_7b, nrv, nS] using hK)
def T_X3_lumpComes : List Value → Hp → (Res → Hp → Prop) → Prop := fun av g K => ∃ (A : Nat → Nat) (S : Nat → Int32) (F : Nat → Nat → Int32) (w : Nat → Int32) (g0 : Hp) (v : Int32) (nl : Nat), mok A ∧ g = mdl A S F w g0 ∧ av = [.ref (A 0), .int v] ∧ w 4 = nI nl ∧ nl < 20 ∧ K (.inl (some (.int (nI (nl + 1))))) (mdl A S F (r_lcm w v nl) g0)
theorem C_X3_lumpComes {l : Launch} {s0 : State} (h0 : St0 l s0) : Ctr l s0 yX3_lumpComes (ws_ yX3_lumpComes cX3_lumpComes 2 (Option.some Jvm.ClassFile.FieldType.int)) 1 0 0 T_X3_lumpComes := by
  refine ctr_of h0 (by decide) ?_ ?_
  · rintro av g K ⟨A, S, F, w, g0, v, nl, hA, rfl, rfl, hp0, hp1, hK⟩
    exact Nat.le_of_ble_eq_true rfl
  · rintro Z X av g K G ⟨A, S, F, w, g0, v, nl, hA, rfl, rfl, hp0, hp1, hK⟩
    show Z 0 [some (.ref (A 0)), some (.int v)] [] _ _ _
    refine z_aload_n G dX3_lumpComes_0 rfl rfl rfl ?_
    refine mz_get G hA dX3_lumpComes_1 rfl (j := 7) fl_X3_16_2 rfl ?_
    refine z_bipush G dX3_lumpComes_4 rfl (v := 22) (by decide) ?_
    refine z_aload_n G dX3_lumpComes_6 rfl rfl rfl ?_
    refine mz_get G hA dX3_lumpComes_7 rfl (j := 7) fl_X3_16_2 rfl ?_
    refine z_iconst G dX3_lumpComes_10 rfl (v := 4) (by decide) ?_
    refine mz_wldN G hA dX3_lumpComes_11 rfl (4) rfl (by decide) (nl) hp0 ?_
    refine z_iaddN G (22) (nl) rfl rfl dX3_lumpComes_12 rfl ?_
    refine z_iload_n G dX3_lumpComes_13 rfl rfl rfl ?_
    refine mz_wst G hA dX3_lumpComes_14 rfl (22 + nl) rfl (by omega) ?_
    refine z_aload_n G dX3_lumpComes_15 rfl rfl rfl ?_
    refine mz_get G hA dX3_lumpComes_16 rfl (j := 7) fl_X3_16_2 rfl ?_
    refine z_iconst G dX3_lumpComes_19 rfl (v := 4) (by decide) ?_
    refine z_dup2_11 G dX3_lumpComes_20 rfl rfl rfl ?_
    refine mz_wldN G hA dX3_lumpComes_21 rfl (4) rfl (by decide) (nl) ((upd_n (by omega)).trans hp0) ?_
    refine z_iconst G dX3_lumpComes_22 rfl (v := 1) (by decide) ?_
    refine z_iaddN G (nl) (1) rfl rfl dX3_lumpComes_23 rfl ?_
    refine mz_wst G hA dX3_lumpComes_24 rfl (4) rfl (by decide) ?_
    refine z_aload_n G dX3_lumpComes_25 rfl rfl rfl ?_
    refine mz_get G hA dX3_lumpComes_26 rfl (j := 7) fl_X3_16_2 rfl ?_
    refine z_iconst G dX3_lumpComes_29 rfl (v := 5) (by decide) ?_
    refine z_dup2_11 G dX3_lumpComes_30 rfl rfl rfl ?_
    refine mz_wld G hA dX3_lumpComes_31 rfl (5) rfl (by decide) ?_
    refine z_iconst G dX3_lumpComes_32 rfl (v := 1) (by decide) ?_
    refine z_iadd G dX3_lumpComes_33 rfl ?_
    refine mz_wst G hA dX3_lumpComes_34 rfl (5) rfl (by decide) ?_
    refine z_aload_n G dX3_lumpComes_35 rfl rfl rfl ?_
    refine mz_get G hA dX3_lumpComes_36 rfl (j := 7) fl_X3_16_2 rfl ?_
    refine z_iconst G dX3_lumpComes_39 rfl (v := 4) (by decide) ?_
    refine mz_wldN G hA dX3_lumpComes_40 rfl (4) rfl (by decide) (nl + 1) ((upd_n (by decide)).trans upd_s) ?_
    exact z_iret G dX3_lumpComes_41 rfl rfl (by rw [show upd (upd w (22 + nl) v) 4 (nI (nl + 1)) 5 = w 5 from (upd_n (by decide)).trans (upd_n (by omega))]; exact hK)
def T_X3_lump : List Value → Hp → (Res → Hp → Prop) → Prop := fun av g K => ∃ (A : Nat → Nat) (S : Nat → Int32) (F : Nat → Nat → Int32) (w : Nat → Int32) (g0 : Hp) (c f : Nat) (v : Int32) (nl : Nat), mok A ∧ g = mdl A S F w g0 ∧ av = [.ref (A 0), .int v] ∧ S 11 = nI c ∧ c ≤ 8 ∧ S 12 = nI f ∧ f < 8 ∧ w 4 = nI nl ∧ (o_lump w v = none → nl < 20) ∧ (∀ y, o_lump w v = some y → K (.inl (some (.int 0))) (mdl A (upd (nS (upd S 0 0) (some y)) 0 1) (m_ref (nS (upd S 0 0) (some y)) F) w g0)) ∧ (o_lump w v = none → K (.inl (some (.int (nI (nl + 1))))) (mdl A (m_kmS (upd S 0 0) c f) (m_rem F w c f upA) (r_lcm w v nl) g0))
theorem C_X3_lump {l : Launch} {s0 : State} (h0 : St0 l s0) : Ctr l s0 yX3_lump (ws_ yX3_lump cX3_lump 2 (Option.some Jvm.ClassFile.FieldType.int)) 3 0 0 T_X3_lump := by
  refine ctr_of h0 (by decide) ?_ ?_
  · rintro av g K ⟨A, S, F, w, g0, c, f, v, nl, hA, rfl, rfl, hc0, hc1, hc2, hc3, hp0, hp1, hR, hK⟩
    exact Nat.le_of_ble_eq_true rfl
  · rintro Z X av g K G ⟨A, S, F, w, g0, c, f, v, nl, hA, rfl, rfl, hc0, hc1, hc2, hc3, hp0, hp1, hR, hK⟩
    show Z 0 [some (.ref (A 0)), some (.int v)] [] _ _ _
    refine z_aload_n G dX3_lump_0 rfl rfl rfl ?_
    refine z_iconst G dX3_lump_1 rfl (v := 0) (by decide) ?_
    refine mz_put G hA dX3_lump_2 rfl (j := 0) fl_X3_42_2p rfl rfl (by decide) rfl ?_
    refine z_aload_n G dX3_lump_5 rfl rfl rfl ?_
    refine z_iload_n G dX3_lump_6 rfl rfl rfl ?_
    refine z_V G dX3_lump_7 rfl m_X3_notLump q2759 (C_X3_notLump h0) (by decide) (As := [_]) rfl rfl (Nat.le_of_ble_eq_true rfl) (Nat.zero_le _) (Nat.zero_le _) (mhas hA) (⟨_, _, _, _, _, _, hA, rfl, rfl, ?_⟩)
    refine z_if_eq G dX3_lump_10 rfl (tgt := 18) (by decide) (fun c_10 => ?_) (fun c_10 => ?_)
    · have ho := nrv_0 c_10
      rw [ho]
      have hq := hp1 ho
      refine z_aload_n G dX3_lump_18 rfl rfl rfl ?_
      refine z_V G dX3_lump_19 rfl m_X3_remembers q2687 (C_X3_remembers h0) (by decide) (As := []) rfl rfl (Nat.le_of_ble_eq_true rfl) (Nat.zero_le _) (Nat.zero_le _) (mhas hA) (⟨_, _, _, _, _, _, _, hA, rfl, rfl, (by first | assumption | decide | omega), (by first | assumption | decide | omega), (by first | assumption | decide | omega), (by first | assumption | decide | omega), ?_⟩)
      refine z_aload_n G dX3_lump_22 rfl rfl rfl ?_
      refine z_iload_n G dX3_lump_23 rfl rfl rfl ?_
      refine z_V G dX3_lump_24 rfl m_X3_lumpComes q2763 (C_X3_lumpComes h0) (by decide) (As := [_]) rfl rfl (Nat.le_of_ble_eq_true rfl) (Nat.zero_le _) (Nat.zero_le _) (mhas hA) (⟨_, _, _, _, _, _, _, hA, rfl, rfl, (by first | assumption | decide | omega), (by first | assumption | decide | omega), ?_⟩)
      exact z_iret G dX3_lump_27 rfl rfl (hK ho)
    · obtain ⟨y, hy⟩ := nrv_n c_10
      rw [hy]
      refine z_aload_n G dX3_lump_13 rfl rfl rfl ?_
      refine z_V G dX3_lump_14 rfl m_X3_refuses q2675 (C_X3_refuses h0) (by decide) (As := []) rfl rfl (Nat.le_of_ble_eq_true rfl) (Nat.zero_le _) (Nat.zero_le _) (mhas hA) (⟨_, _, _, _, _, hA, rfl, rfl, ?_⟩)
      exact z_iret G dX3_lump_17 rfl rfl (hR y hy)
def T_X3_notPiece : List Value → Hp → (Res → Hp → Prop) → Prop := fun av g K => ∃ (A : Nat → Nat) (S : Nat → Int32) (F : Nat → Nat → Int32) (w : Nat → Int32) (g0 : Hp) (v : Int32), mok A ∧ g = mdl A S F w g0 ∧ av = [.ref (A 0), .int v] ∧ K (.inl (some (.int (nrv (o_piece w v))))) (mdl A (nS S (o_piece w v)) F w g0)
theorem C_X3_notPiece {l : Launch} {s0 : State} (h0 : St0 l s0) : Ctr l s0 yX3_notPiece (ws_ yX3_notPiece cX3_notPiece 2 (Option.some Jvm.ClassFile.FieldType.int)) 2 0 0 T_X3_notPiece := by
  refine ctr_of h0 (by decide) ?_ ?_
  · rintro av g K ⟨A, S, F, w, g0, v, hA, rfl, rfl, hK⟩
    exact Nat.le_of_ble_eq_true rfl
  · rintro Z X av g K G ⟨A, S, F, w, g0, v, hA, rfl, rfl, hK⟩
    show Z 0 [some (.ref (A 0)), some (.int v)] [] _ _ _
    refine z_iload_n G dX3_notPiece_0 rfl rfl rfl ?_
    refine z_iconst G dX3_notPiece_1 rfl (v := 1) (by decide) ?_
    refine z_bipush G dX3_notPiece_2 rfl (v := 6) (by decide) ?_
    refine z_S G dX3_notPiece_4 rfl m_X3_isBetween q2668 (C_X3_isBetween h0) (by decide) (As := [_, _, _]) rfl rfl (Nat.le_of_ble_eq_true rfl) (Nat.zero_le _) (Nat.zero_le _) (⟨_, _, _, rfl, ?_⟩)
    refine z_if_ne G dX3_notPiece_7 rfl (tgt := 17) (by decide) (fun c_7 => ?_) (fun c_7 => ?_)
    · have c_7b := bI_t c_7
      refine z_aload_n G dX3_notPiece_17 rfl rfl rfl ?_
      refine z_V G dX3_notPiece_18 rfl m_X3_piecesNow q2775 (C_X3_piecesNow h0) (by decide) (As := []) rfl rfl (Nat.le_of_ble_eq_true rfl) (Nat.zero_le _) (Nat.zero_le _) (mhas hA) (⟨_, _, _, _, _, hA, rfl, rfl, ?_⟩)
      refine z_bipush G dX3_notPiece_21 rfl (v := 24) (by decide) ?_
      refine z_icmp_ne G dX3_notPiece_23 rfl (tgt := 36) (by decide) (fun c_23 => ?_) (fun c_23 => ?_)
      · refine z_iconst G dX3_notPiece_36 rfl (v := 0) (by decide) ?_
        exact z_iret G dX3_notPiece_37 rfl rfl (by simpa [o_piece, isP, c_7, c_7b, c_23, nrv, nS] using hK)
      · refine z_aload_n G dX3_notPiece_26 rfl rfl rfl ?_
        refine z_iconst G dX3_notPiece_27 rfl (v := 4) (by decide) ?_
        refine z_bipush G dX3_notPiece_28 rfl (v := 24) (by decide) ?_
        refine z_V G dX3_notPiece_30 rfl m_X3_isNot q2671 (C_X3_isNot h0) (by decide) (As := [_, _]) rfl rfl (Nat.le_of_ble_eq_true rfl) (Nat.zero_le _) (Nat.zero_le _) (mhas hA) (⟨_, _, _, _, _, _, _, hA, rfl, rfl, ?_⟩)
        refine z_goto G dX3_notPiece_33 (tgt := 37) (by decide) ?_
        exact z_iret G dX3_notPiece_37 rfl rfl (by simpa [o_piece, isP, c_7, c_7b, c_23, nrv, nS] using hK)
    · have c_7b := bI_f c_7
      refine z_aload_n G dX3_notPiece_10 rfl rfl rfl ?_
      refine z_iconst G dX3_notPiece_11 rfl (v := 3) (by decide) ?_
      refine z_iload_n G dX3_notPiece_12 rfl rfl rfl ?_
      refine z_V G dX3_notPiece_13 rfl m_X3_isNot q2671 (C_X3_isNot h0) (by decide) (As := [_, _]) rfl rfl (Nat.le_of_ble_eq_true rfl) (Nat.zero_le _) (Nat.zero_le _) (mhas hA) (⟨_, _, _, _, _, _, _, hA, rfl, rfl, ?_⟩)
      exact z_iret G dX3_notPiece_16 rfl rfl (by simpa [o_piece, isP, c_7, c_7b, nrv, nS] using hK)
def T_X3_pieceComes : List Value → Hp → (Res → Hp → Prop) → Prop := fun av g K => ∃ (A : Nat → Nat) (S : Nat → Int32) (F : Nat → Nat → Int32) (w : Nat → Int32) (g0 : Hp) (i : Nat), mok A ∧ g = mdl A S F w g0 ∧ av = [.ref (A 0), .int (nI i)] ∧ i < 7 ∧ K (.inl (some (.int (r_pcs (r_pcm w i) 6)))) (mdl A S F (r_pcm w i) g0)
theorem C_X3_pieceComes {l : Launch} {s0 : State} (h0 : St0 l s0) : Ctr l s0 yX3_pieceComes (ws_ yX3_pieceComes cX3_pieceComes 2 (Option.some Jvm.ClassFile.FieldType.int)) 2 0 0 T_X3_pieceComes := by
  refine ctr_of h0 (by decide) ?_ ?_
  · rintro av g K ⟨A, S, F, w, g0, i, hA, rfl, rfl, hp0, hK⟩
    exact Nat.le_of_ble_eq_true rfl
  · rintro Z X av g K G ⟨A, S, F, w, g0, i, hA, rfl, rfl, hp0, hK⟩
    show Z 0 [some (.ref (A 0)), some (.int (nI i))] [] _ _ _
    refine z_aload_n G dX3_pieceComes_0 rfl rfl rfl ?_
    refine mz_get G hA dX3_pieceComes_1 rfl (j := 7) fl_X3_16_2 rfl ?_
    refine z_bipush G dX3_pieceComes_4 rfl (v := 42) (by decide) ?_
    refine z_iload_n G dX3_pieceComes_6 rfl rfl rfl ?_
    refine z_iaddN G (42) (i) rfl rfl dX3_pieceComes_7 rfl ?_
    refine z_dup2_11 G dX3_pieceComes_8 rfl rfl rfl ?_
    refine mz_wld G hA dX3_pieceComes_9 rfl (42 + i) rfl (by omega) ?_
    refine z_iconst G dX3_pieceComes_10 rfl (v := 1) (by decide) ?_
    refine z_iadd G dX3_pieceComes_11 rfl ?_
    refine mz_wst G hA dX3_pieceComes_12 rfl (42 + i) rfl (by omega) ?_
    refine z_aload_n G dX3_pieceComes_13 rfl rfl rfl ?_
    refine z_V G dX3_pieceComes_14 rfl m_X3_piecesNow q2775 (C_X3_piecesNow h0) (by decide) (As := []) rfl rfl (Nat.le_of_ble_eq_true rfl) (Nat.zero_le _) (Nat.zero_le _) (mhas hA) (⟨_, _, _, _, _, hA, rfl, rfl, ?_⟩)
    exact z_iret G dX3_pieceComes_17 rfl rfl (hK)
def T_X3_piece : List Value → Hp → (Res → Hp → Prop) → Prop := fun av g K => ∃ (A : Nat → Nat) (S : Nat → Int32) (F : Nat → Nat → Int32) (w : Nat → Int32) (g0 : Hp) (c f : Nat) (v : Int32) (i : Nat), mok A ∧ g = mdl A S F w g0 ∧ av = [.ref (A 0), .int v] ∧ S 11 = nI c ∧ c ≤ 8 ∧ S 12 = nI f ∧ f < 8 ∧ (o_piece w v = none → v = nI i ∧ i < 7) ∧ (∀ y, o_piece w v = some y → K (.inl (some (.int 0))) (mdl A (upd (nS (upd S 0 0) (some y)) 0 1) (m_ref (nS (upd S 0 0) (some y)) F) w g0)) ∧ (o_piece w v = none → K (.inl (some (.int (r_pcs (r_pcm w i) 6)))) (mdl A (m_kmS (upd S 0 0) c f) (m_rem F w c f upA) (r_pcm w i) g0))
theorem C_X3_piece {l : Launch} {s0 : State} (h0 : St0 l s0) : Ctr l s0 yX3_piece (ws_ yX3_piece cX3_piece 2 (Option.some Jvm.ClassFile.FieldType.int)) 3 0 0 T_X3_piece := by
  refine ctr_of h0 (by decide) ?_ ?_
  · rintro av g K ⟨A, S, F, w, g0, c, f, v, i, hA, rfl, rfl, hc0, hc1, hc2, hc3, hp0, hR, hK⟩
    exact Nat.le_of_ble_eq_true rfl
  · rintro Z X av g K G ⟨A, S, F, w, g0, c, f, v, i, hA, rfl, rfl, hc0, hc1, hc2, hc3, hp0, hR, hK⟩
    show Z 0 [some (.ref (A 0)), some (.int v)] [] _ _ _
    refine z_aload_n G dX3_piece_0 rfl rfl rfl ?_
    refine z_iconst G dX3_piece_1 rfl (v := 0) (by decide) ?_
    refine mz_put G hA dX3_piece_2 rfl (j := 0) fl_X3_42_2p rfl rfl (by decide) rfl ?_
    refine z_aload_n G dX3_piece_5 rfl rfl rfl ?_
    refine z_iload_n G dX3_piece_6 rfl rfl rfl ?_
    refine z_V G dX3_piece_7 rfl m_X3_notPiece q2771 (C_X3_notPiece h0) (by decide) (As := [_]) rfl rfl (Nat.le_of_ble_eq_true rfl) (Nat.zero_le _) (Nat.zero_le _) (mhas hA) (⟨_, _, _, _, _, _, hA, rfl, rfl, ?_⟩)
    refine z_if_eq G dX3_piece_10 rfl (tgt := 18) (by decide) (fun c_10 => ?_) (fun c_10 => ?_)
    · have ho := nrv_0 c_10
      rw [ho]
      obtain ⟨rfl, hi⟩ := hp0 ho
      refine z_aload_n G dX3_piece_18 rfl rfl rfl ?_
      refine z_V G dX3_piece_19 rfl m_X3_remembers q2687 (C_X3_remembers h0) (by decide) (As := []) rfl rfl (Nat.le_of_ble_eq_true rfl) (Nat.zero_le _) (Nat.zero_le _) (mhas hA) (⟨_, _, _, _, _, _, _, hA, rfl, rfl, (by first | assumption | decide | omega), (by first | assumption | decide | omega), (by first | assumption | decide | omega), (by first | assumption | decide | omega), ?_⟩)
      refine z_aload_n G dX3_piece_22 rfl rfl rfl ?_
      refine z_iload_n G dX3_piece_23 rfl rfl rfl ?_
      refine z_V G dX3_piece_24 rfl m_X3_pieceComes q2779 (C_X3_pieceComes h0) (by decide) (As := [_]) rfl rfl (Nat.le_of_ble_eq_true rfl) (Nat.zero_le _) (Nat.zero_le _) (mhas hA) (⟨_, _, _, _, _, _, hA, rfl, rfl, (by first | assumption | decide | omega), ?_⟩)
      exact z_iret G dX3_piece_27 rfl rfl (hK ho)
    · obtain ⟨y, hy⟩ := nrv_n c_10
      rw [hy]
      refine z_aload_n G dX3_piece_13 rfl rfl rfl ?_
      refine z_V G dX3_piece_14 rfl m_X3_refuses q2675 (C_X3_refuses h0) (by decide) (As := []) rfl rfl (Nat.le_of_ble_eq_true rfl) (Nat.zero_le _) (Nat.zero_le _) (mhas hA) (⟨_, _, _, _, _, hA, rfl, rfl, ?_⟩)
      exact z_iret G dX3_piece_17 rfl rfl (hR y hy)
def T_X3_hourOfDay : List Value → Hp → (Res → Hp → Prop) → Prop := fun av g K => ∃ (A : Nat → Nat) (S : Nat → Int32) (F : Nat → Nat → Int32) (w : Nat → Int32) (g0 : Hp) (h : Nat), mok A ∧ g = mdl A S F w g0 ∧ av = [.ref (A 0)] ∧ w 0 = nI h ∧ h < 2 ^ 30 ∧ K (.inl (some (.int (nI (h % 24))))) g
theorem C_X3_hourOfDay {l : Launch} {s0 : State} (h0 : St0 l s0) : Ctr l s0 yX3_hourOfDay (ws_ yX3_hourOfDay cX3_hourOfDay 1 (Option.some Jvm.ClassFile.FieldType.int)) 1 0 0 T_X3_hourOfDay := by
  refine ctr_of h0 (by decide) ?_ ?_
  · rintro av g K ⟨A, S, F, w, g0, h, hA, rfl, rfl, hp0, hp1, hK⟩
    exact Nat.le_of_ble_eq_true rfl
  · rintro Z X av g K G ⟨A, S, F, w, g0, h, hA, rfl, rfl, hp0, hp1, hK⟩
    show Z 0 [some (.ref (A 0))] [] _ _ _
    refine z_aload_n G dX3_hourOfDay_0 rfl rfl rfl ?_
    refine mz_get G hA dX3_hourOfDay_1 rfl (j := 7) fl_X3_16_2 rfl ?_
    refine z_iconst G dX3_hourOfDay_4 rfl (v := 0) (by decide) ?_
    refine mz_wldN G hA dX3_hourOfDay_5 rfl (0) rfl (by decide) (h) hp0 ?_
    refine z_bipush G dX3_hourOfDay_6 rfl (v := 24) (by decide) ?_
    refine z_iremN G (h) (24) rfl rfl (by omega) (by omega) (by omega) dX3_hourOfDay_8 rfl ?_
    exact z_iret G dX3_hourOfDay_9 rfl rfl (hK)
def T_X3_isDrummed : List Value → Hp → (Res → Hp → Prop) → Prop := fun av g K => ∃ (A : Nat → Nat) (S : Nat → Int32) (F : Nat → Nat → Int32) (w : Nat → Int32) (g0 : Hp) (x : Int32), mok A ∧ g = mdl A S F w g0 ∧ av = [.ref (A 0), .int x] ∧ K (.inl (some (.int (bI (r_drm w x))))) g
theorem C_X3_isDrummed {l : Launch} {s0 : State} (h0 : St0 l s0) : Ctr l s0 yX3_isDrummed (ws_ yX3_isDrummed cX3_isDrummed 2 (Option.some Jvm.ClassFile.FieldType.boolean)) 1 0 0 T_X3_isDrummed := by
  refine ctr_of h0 (by decide) ?_ ?_
  · rintro av g K ⟨A, S, F, w, g0, x, hA, rfl, rfl, hK⟩
    exact Nat.le_of_ble_eq_true rfl
  · rintro Z X av g K G ⟨A, S, F, w, g0, x, hA, rfl, rfl, hK⟩
    show Z 0 [some (.ref (A 0)), some (.int x)] [] _ _ _
    refine z_iload_n G dX3_isDrummed_0 rfl rfl rfl ?_
    refine z_aload_n G dX3_isDrummed_1 rfl rfl rfl ?_
    refine mz_get G hA dX3_isDrummed_2 rfl (j := 7) fl_X3_16_2 rfl ?_
    refine z_iconst G dX3_isDrummed_5 rfl (v := 1) (by decide) ?_
    refine mz_wld G hA dX3_isDrummed_6 rfl (1) rfl (by decide) ?_
    refine z_icmp_ge G dX3_isDrummed_7 rfl (tgt := 16) (by decide) (fun c_7 => ?_) (fun c_7 => ?_)
    · have c_7n := Int32.not_lt.mpr c_7
      refine z_iconst G dX3_isDrummed_16 rfl (v := 1) (by decide) ?_
      refine z_goto G dX3_isDrummed_17 (tgt := 21) (by decide) ?_
      exact z_iret G dX3_isDrummed_21 rfl rfl (by simpa [bI, r_drm, c_7, c_7n] using hK)
    · have c_7n := Int32.not_le.mp c_7
      refine z_iload_n G dX3_isDrummed_10 rfl rfl rfl ?_
      refine z_bipush G dX3_isDrummed_11 rfl (v := 6) (by decide) ?_
      refine z_icmp_ge G dX3_isDrummed_13 rfl (tgt := 20) (by decide) (fun c_13 => ?_) (fun c_13 => ?_)
      · have c_13n := Int32.not_lt.mpr c_13
        refine z_iconst G dX3_isDrummed_20 rfl (v := 0) (by decide) ?_
        exact z_iret G dX3_isDrummed_21 rfl rfl (by simpa [bI, r_drm, c_7, c_7n, c_13, c_13n] using hK)
      · have c_13n := Int32.not_le.mp c_13
        refine z_iconst G dX3_isDrummed_16 rfl (v := 1) (by decide) ?_
        refine z_goto G dX3_isDrummed_17 (tgt := 21) (by decide) ?_
        exact z_iret G dX3_isDrummed_21 rfl rfl (by simpa [bI, r_drm, c_7, c_7n, c_13, c_13n] using hK)
def T_X3_hoursUntil : List Value → Hp → (Res → Hp → Prop) → Prop := fun av g K => ∃ (A : Nat → Nat) (S : Nat → Int32) (F : Nat → Nat → Int32) (w : Nat → Int32) (g0 : Hp) (b : Bool) (h : Nat), mok A ∧ g = mdl A S F w g0 ∧ av = [.ref (A 0), .int (bI b)] ∧ w 0 = nI h ∧ h < 2 ^ 30 ∧ r_has w h b 0 ∧ K (.inl (some (.int (r_unt w h b 24 0)))) g
theorem C_X3_hoursUntil {l : Launch} {s0 : State} (h0 : St0 l s0) : Ctr l s0 yX3_hoursUntil (ws_ yX3_hoursUntil cX3_hoursUntil 3 (Option.some Jvm.ClassFile.FieldType.int)) 2 0 0 T_X3_hoursUntil := by
  refine ctr_of h0 (by decide) ?_ ?_
  · rintro av g K ⟨A, S, F, w, g0, b, h, hA, rfl, rfl, hp0, hp1, hp2, hK⟩
    exact Nat.le_of_ble_eq_true rfl
  · rintro Z X av g K G ⟨A, S, F, w, g0, b, h, hA, rfl, rfl, hp0, hp1, hp2, hK⟩
    show Z 0 [some (.ref (A 0)), some (.int (bI b)), none] [] _ _ _
    refine z_iconst G dX3_hoursUntil_0 rfl (v := 0) (by decide) ?_
    refine z_istore_n G dX3_hoursUntil_1 rfl (i := 2) rfl (by decide) (zcat_s rfl) (show Z 2 [_, _, _] _ _ _ _ from ?_)
    have L2 : ∀ (n i : Nat), i + n = 24 → r_has w h b i → K (.inl (some (.int (r_unt w h b n i)))) (mdl A S F w g0) → Z 2 [some (.ref (A 0)), some (.int (bI b)), some (.int (nI i))] [] (mdl A S F w g0) 0 0 := by
      intro n
      induction n with
      | zero =>
        intro i hn hm hK
        obtain ⟨m, h1, h2, h3⟩ := hm
        exact absurd h2 (by omega)
      | succ n ih =>
        intro i hn hm hK
        refine z_aload_n G dX3_hoursUntil_2 rfl rfl rfl ?_
        refine z_aload_n G dX3_hoursUntil_3 rfl rfl rfl ?_
        refine mz_get G hA dX3_hoursUntil_4 rfl (j := 7) fl_X3_16_2 rfl ?_
        refine z_iconst G dX3_hoursUntil_7 rfl (v := 0) (by decide) ?_
        refine mz_wldN G hA dX3_hoursUntil_8 rfl (0) rfl (by decide) (h) hp0 ?_
        refine z_iload_n G dX3_hoursUntil_9 rfl rfl rfl ?_
        refine z_iaddN G (h) (i) rfl rfl dX3_hoursUntil_10 rfl ?_
        refine z_bipush G dX3_hoursUntil_11 rfl (v := 24) (by decide) ?_
        refine z_iremN G (h + i) (24) rfl rfl (by omega) (by omega) (by omega) dX3_hoursUntil_13 rfl ?_
        refine z_V G dX3_hoursUntil_14 rfl m_X3_isDrummed q2791 (C_X3_isDrummed h0) (by decide) (As := [_]) rfl rfl (Nat.le_of_ble_eq_true rfl) (Nat.zero_le _) (Nat.zero_le _) (mhas hA) (⟨_, _, _, _, _, _, hA, rfl, rfl, ?_⟩)
        refine z_iload_n G dX3_hoursUntil_17 rfl rfl rfl ?_
        refine z_icmp_eq G dX3_hoursUntil_18 rfl (tgt := 27) (by decide) (fun c_18 => ?_) (fun c_18 => ?_)
        · have c_18e := bI_inj.mp c_18
          refine z_iload_n G dX3_hoursUntil_27 rfl rfl rfl ?_
          exact z_iret G dX3_hoursUntil_28 rfl rfl (by simpa [r_unt, c_18e] using hK)
        · have c_18e : ¬ r_drm w (nI ((h + i) % 24)) = b := fun e => c_18 (by rw [e])
          refine z_iinc G dX3_hoursUntil_21 rfl rfl (nI_1 _) (by decide) (zcat_s rfl) (show Z 24 [_, _, _] _ _ _ _ from ?_)
          refine z_goto G dX3_hoursUntil_24 (tgt := 2) (by decide) ?_
          exact ih (i + 1) (by omega) (by obtain ⟨m, h1, h2, h3⟩ := hm; exact ⟨m, by rcases Nat.lt_or_ge i m with q | q; exact q; exact absurd (by rw [show i = m by omega]; exact h3) c_18e, h2, h3⟩) (by simpa [r_unt, c_18e] using hK)
    exact L2 24 0 rfl hp2 hK
def T_X3_curfewIn : List Value → Hp → (Res → Hp → Prop) → Prop := fun av g K => ∃ (A : Nat → Nat) (S : Nat → Int32) (F : Nat → Nat → Int32) (w : Nat → Int32) (g0 : Hp) (h : Nat), mok A ∧ g = mdl A S F w g0 ∧ av = [.ref (A 0)] ∧ w 0 = nI h ∧ h < 2 ^ 30 ∧ r_has w h true 0 ∧ K (.inl (some (.int (r_unt w h true 24 0)))) (mdl A (upd S 0 0) F w g0)
theorem C_X3_curfewIn {l : Launch} {s0 : State} (h0 : St0 l s0) : Ctr l s0 yX3_curfewIn (ws_ yX3_curfewIn cX3_curfewIn 1 (Option.some Jvm.ClassFile.FieldType.int)) 3 0 0 T_X3_curfewIn := by
  refine ctr_of h0 (by decide) ?_ ?_
  · rintro av g K ⟨A, S, F, w, g0, h, hA, rfl, rfl, hp0, hp1, hp2, hK⟩
    exact Nat.le_of_ble_eq_true rfl
  · rintro Z X av g K G ⟨A, S, F, w, g0, h, hA, rfl, rfl, hp0, hp1, hp2, hK⟩
    show Z 0 [some (.ref (A 0))] [] _ _ _
    refine z_aload_n G dX3_curfewIn_0 rfl rfl rfl ?_
    refine z_iconst G dX3_curfewIn_1 rfl (v := 0) (by decide) ?_
    refine mz_put G hA dX3_curfewIn_2 rfl (j := 0) fl_X3_42_2p rfl rfl (by decide) rfl ?_
    refine z_aload_n G dX3_curfewIn_5 rfl rfl rfl ?_
    refine z_iconst G dX3_curfewIn_6 rfl (v := 1) (by decide) ?_
    refine z_V G dX3_curfewIn_7 rfl m_X3_hoursUntil q2799 (C_X3_hoursUntil h0) (by decide) (As := [_]) rfl rfl (Nat.le_of_ble_eq_true rfl) (Nat.zero_le _) (Nat.zero_le _) (mhas hA) (⟨_, _, _, _, _, true, h, hA, rfl, rfl, hp0, hp1, hp2, ?_⟩)
    exact z_iret G dX3_curfewIn_10 rfl rfl (hK)
def T_X3_isCurfew : List Value → Hp → (Res → Hp → Prop) → Prop := fun av g K => ∃ (A : Nat → Nat) (S : Nat → Int32) (F : Nat → Nat → Int32) (w : Nat → Int32) (g0 : Hp) (h : Nat), mok A ∧ g = mdl A S F w g0 ∧ av = [.ref (A 0)] ∧ w 0 = nI h ∧ h < 2 ^ 30 ∧ K (.inl (some (.int (bI (r_drm w (nI (h % 24))))))) (mdl A (upd S 0 0) F w g0)
theorem C_X3_isCurfew {l : Launch} {s0 : State} (h0 : St0 l s0) : Ctr l s0 yX3_isCurfew (ws_ yX3_isCurfew cX3_isCurfew 1 (Option.some Jvm.ClassFile.FieldType.boolean)) 2 0 0 T_X3_isCurfew := by
  refine ctr_of h0 (by decide) ?_ ?_
  · rintro av g K ⟨A, S, F, w, g0, h, hA, rfl, rfl, hp0, hp1, hK⟩
    exact Nat.le_of_ble_eq_true rfl
  · rintro Z X av g K G ⟨A, S, F, w, g0, h, hA, rfl, rfl, hp0, hp1, hK⟩
    show Z 0 [some (.ref (A 0))] [] _ _ _
    refine z_aload_n G dX3_isCurfew_0 rfl rfl rfl ?_
    refine z_iconst G dX3_isCurfew_1 rfl (v := 0) (by decide) ?_
    refine mz_put G hA dX3_isCurfew_2 rfl (j := 0) fl_X3_42_2p rfl rfl (by decide) rfl ?_
    refine z_aload_n G dX3_isCurfew_5 rfl rfl rfl ?_
    refine z_aload_n G dX3_isCurfew_6 rfl rfl rfl ?_
    refine z_V G dX3_isCurfew_7 rfl m_X3_hourOfDay q2787 (C_X3_hourOfDay h0) (by decide) (As := []) rfl rfl (Nat.le_of_ble_eq_true rfl) (Nat.zero_le _) (Nat.zero_le _) (mhas hA) (⟨_, _, _, _, _, _, hA, rfl, rfl, (by first | assumption | decide | omega), (by first | assumption | decide | omega), ?_⟩)
    refine z_V G dX3_isCurfew_10 rfl m_X3_isDrummed q2791 (C_X3_isDrummed h0) (by decide) (As := [_]) rfl rfl (Nat.le_of_ble_eq_true rfl) (Nat.zero_le _) (Nat.zero_le _) (mhas hA) (⟨_, _, _, _, _, _, hA, rfl, rfl, ?_⟩)
    exact z_iret G dX3_isCurfew_13 rfl (bI_nar _) (hK)
def T_X3_notCurfew : List Value → Hp → (Res → Hp → Prop) → Prop := fun av g K => ∃ (A : Nat → Nat) (S : Nat → Int32) (F : Nat → Nat → Int32) (w : Nat → Int32) (g0 : Hp) (v : Int32), mok A ∧ g = mdl A S F w g0 ∧ av = [.ref (A 0), .int v] ∧ K (.inl (some (.int (nrv (o_cur v))))) (mdl A (nS S (o_cur v)) F w g0)
theorem C_X3_notCurfew {l : Launch} {s0 : State} (h0 : St0 l s0) : Ctr l s0 yX3_notCurfew (ws_ yX3_notCurfew cX3_notCurfew 2 (Option.some Jvm.ClassFile.FieldType.int)) 2 0 0 T_X3_notCurfew := by
  refine ctr_of h0 (by decide) ?_ ?_
  · rintro av g K ⟨A, S, F, w, g0, v, hA, rfl, rfl, hK⟩
    exact Nat.le_of_ble_eq_true rfl
  · rintro Z X av g K G ⟨A, S, F, w, g0, v, hA, rfl, rfl, hK⟩
    show Z 0 [some (.ref (A 0)), some (.int v)] [] _ _ _
    refine z_iload_n G dX3_notCurfew_0 rfl rfl rfl ?_
    refine z_bipush G dX3_notCurfew_1 rfl (v := 18) (by decide) ?_
    refine z_bipush G dX3_notCurfew_3 rfl (v := 23) (by decide) ?_
    refine z_S G dX3_notCurfew_5 rfl m_X3_isBetween q2668 (C_X3_isBetween h0) (by decide) (As := [_, _, _]) rfl rfl (Nat.le_of_ble_eq_true rfl) (Nat.zero_le _) (Nat.zero_le _) (⟨_, _, _, rfl, ?_⟩)
    refine z_if_eq G dX3_notCurfew_8 rfl (tgt := 15) (by decide) (fun c_8 => ?_) (fun c_8 => ?_)
    · have c_8b := bI_f c_8
      refine z_aload_n G dX3_notCurfew_15 rfl rfl rfl ?_
      refine z_iconst G dX3_notCurfew_16 rfl (v := 3) (by decide) ?_
      refine z_iload_n G dX3_notCurfew_17 rfl rfl rfl ?_
      refine z_V G dX3_notCurfew_18 rfl m_X3_isNot q2671 (C_X3_isNot h0) (by decide) (As := [_, _]) rfl rfl (Nat.le_of_ble_eq_true rfl) (Nat.zero_le _) (Nat.zero_le _) (mhas hA) (⟨_, _, _, _, _, _, _, hA, rfl, rfl, ?_⟩)
      exact z_iret G dX3_notCurfew_21 rfl rfl (by simpa [o_cur, isP, c_8, c_8b, nrv, nS] using hK)
    · have c_8b := bI_t c_8
      refine z_iconst G dX3_notCurfew_11 rfl (v := 0) (by decide) ?_
      refine z_goto G dX3_notCurfew_12 (tgt := 21) (by decide) ?_
      exact z_iret G dX3_notCurfew_21 rfl rfl (by simpa [o_cur, isP, c_8, c_8b, nrv, nS] using hK)
def T_X3_curfew : List Value → Hp → (Res → Hp → Prop) → Prop := fun av g K => ∃ (A : Nat → Nat) (S : Nat → Int32) (F : Nat → Nat → Int32) (w : Nat → Int32) (g0 : Hp) (c f : Nat) (v : Int32), mok A ∧ g = mdl A S F w g0 ∧ av = [.ref (A 0), .int v] ∧ S 11 = nI c ∧ c ≤ 8 ∧ S 12 = nI f ∧ f < 8 ∧ (∀ y, o_cur v = some y → K (.inl (some (.int 0))) (mdl A (upd (nS (upd S 0 0) (some y)) 0 1) (m_ref (nS (upd S 0 0) (some y)) F) w g0)) ∧ (o_cur v = none → K (.inl (some (.int (w 1)))) (mdl A (m_kmS (upd S 0 0) c f) (m_rem F w c f upA) (upd w 1 v) g0))
theorem C_X3_curfew {l : Launch} {s0 : State} (h0 : St0 l s0) : Ctr l s0 yX3_curfew (ws_ yX3_curfew cX3_curfew 3 (Option.some Jvm.ClassFile.FieldType.int)) 3 0 0 T_X3_curfew := by
  refine ctr_of h0 (by decide) ?_ ?_
  · rintro av g K ⟨A, S, F, w, g0, c, f, v, hA, rfl, rfl, hc0, hc1, hc2, hc3, hR, hK⟩
    exact Nat.le_of_ble_eq_true rfl
  · rintro Z X av g K G ⟨A, S, F, w, g0, c, f, v, hA, rfl, rfl, hc0, hc1, hc2, hc3, hR, hK⟩
    show Z 0 [some (.ref (A 0)), some (.int v), none] [] _ _ _
    refine z_aload_n G dX3_curfew_0 rfl rfl rfl ?_
    refine z_iconst G dX3_curfew_1 rfl (v := 0) (by decide) ?_
    refine mz_put G hA dX3_curfew_2 rfl (j := 0) fl_X3_42_2p rfl rfl (by decide) rfl ?_
    refine z_aload_n G dX3_curfew_5 rfl rfl rfl ?_
    refine z_iload_n G dX3_curfew_6 rfl rfl rfl ?_
    refine z_V G dX3_curfew_7 rfl m_X3_notCurfew q2807 (C_X3_notCurfew h0) (by decide) (As := [_]) rfl rfl (Nat.le_of_ble_eq_true rfl) (Nat.zero_le _) (Nat.zero_le _) (mhas hA) (⟨_, _, _, _, _, _, hA, rfl, rfl, ?_⟩)
    refine z_if_eq G dX3_curfew_10 rfl (tgt := 18) (by decide) (fun c_10 => ?_) (fun c_10 => ?_)
    · have ho := nrv_0 c_10
      rw [ho]
      refine z_aload_n G dX3_curfew_18 rfl rfl rfl ?_
      refine z_V G dX3_curfew_19 rfl m_X3_remembers q2687 (C_X3_remembers h0) (by decide) (As := []) rfl rfl (Nat.le_of_ble_eq_true rfl) (Nat.zero_le _) (Nat.zero_le _) (mhas hA) (⟨_, _, _, _, _, _, _, hA, rfl, rfl, (by first | assumption | decide | omega), (by first | assumption | decide | omega), (by first | assumption | decide | omega), (by first | assumption | decide | omega), ?_⟩)
      refine z_aload_n G dX3_curfew_22 rfl rfl rfl ?_
      refine mz_get G hA dX3_curfew_23 rfl (j := 7) fl_X3_16_2 rfl ?_
      refine z_iconst G dX3_curfew_26 rfl (v := 1) (by decide) ?_
      refine mz_wld G hA dX3_curfew_27 rfl (1) rfl (by decide) ?_
      refine z_istore_n G dX3_curfew_28 rfl (i := 2) rfl (by decide) (zcat_s rfl) (show Z 29 [_, _, _] _ _ _ _ from ?_)
      refine z_aload_n G dX3_curfew_29 rfl rfl rfl ?_
      refine mz_get G hA dX3_curfew_30 rfl (j := 7) fl_X3_16_2 rfl ?_
      refine z_iconst G dX3_curfew_33 rfl (v := 1) (by decide) ?_
      refine z_iload_n G dX3_curfew_34 rfl rfl rfl ?_
      refine mz_wst G hA dX3_curfew_35 rfl (1) rfl (by decide) ?_
      refine z_iload_n G dX3_curfew_36 rfl rfl rfl ?_
      exact z_iret G dX3_curfew_37 rfl rfl (hK ho)
    · obtain ⟨y, hy⟩ := nrv_n c_10
      rw [hy]
      refine z_aload_n G dX3_curfew_13 rfl rfl rfl ?_
      refine z_V G dX3_curfew_14 rfl m_X3_refuses q2675 (C_X3_refuses h0) (by decide) (As := []) rfl rfl (Nat.le_of_ble_eq_true rfl) (Nat.zero_le _) (Nat.zero_le _) (mhas hA) (⟨_, _, _, _, _, hA, rfl, rfl, ?_⟩)
      exact z_iret G dX3_curfew_17 rfl rfl (hR y hy)
