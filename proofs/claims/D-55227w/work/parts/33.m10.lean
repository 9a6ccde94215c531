/-! THE REFERENCE: reasons, accounts, undoing, saving -/
def T_X3_faultPosition : List Value → Hp → (Res → Hp → Prop) → Prop := fun av g K => ∃ (A : Nat → Nat) (S : Nat → Int32) (F : Nat → Nat → Int32) (w : Nat → Int32) (g0 : Hp) , mok A ∧ g = mdl A S F w g0 ∧ av = [.ref (A 0)] ∧ K (.inl (some (.int (S 17)))) (mdl A (upd S 0 0) F w g0)
theorem C_X3_faultPosition {l : Launch} {s0 : State} (h0 : St0 l s0) : Ctr l s0 yX3_faultPosition (ws_ yX3_faultPosition cX3_faultPosition 1 (Option.some Jvm.ClassFile.FieldType.int)) 1 0 0 T_X3_faultPosition := by
  refine ctr_of h0 (by decide) ?_ ?_
  · rintro av g K ⟨A, S, F, w, g0, hA, rfl, rfl, hK⟩
    exact Nat.le_of_ble_eq_true rfl
  · rintro Z X av g K G ⟨A, S, F, w, g0, hA, rfl, rfl, hK⟩
    show Z 0 [some (.ref (A 0))] [] _ _ _
    refine z_aload_n G dX3_faultPosition_0 rfl rfl rfl ?_
    refine z_iconst G dX3_faultPosition_1 rfl (v := 0) (by decide) ?_
    refine mz_put G hA dX3_faultPosition_2 rfl (j := 0) fl_X3_42_2p rfl rfl (by decide) rfl ?_
    refine z_aload_n G dX3_faultPosition_5 rfl rfl rfl ?_
    refine mz_get G hA dX3_faultPosition_6 rfl (j := 17) fl_X3_32_2 rfl ?_
    exact z_iret G dX3_faultPosition_9 rfl rfl (hK)
def T_X3_reason : List Value → Hp → (Res → Hp → Prop) → Prop := fun av g K => ∃ (A : Nat → Nat) (S : Nat → Int32) (F : Nat → Nat → Int32) (w : Nat → Int32) (g0 : Hp) (d : Int32) (dn : Nat) (b : Bool), mok A ∧ g = mdl A S F w g0 ∧ av = [.ref (A 0), .int d, .int (bI b)] ∧ (¬ d < 0 → ¬ 2 < d → d = nI dn ∧ dn < 3) ∧ K (.inl (some (.int (q_res F d dn b).2))) (mdl A (upd S 0 (q_res F d dn b).1) F w g0)
theorem C_X3_reason {l : Launch} {s0 : State} (h0 : St0 l s0) : Ctr l s0 yX3_reason (ws_ yX3_reason cX3_reason 3 (Option.some Jvm.ClassFile.FieldType.int)) 2 0 0 T_X3_reason := by
  refine ctr_of h0 (by decide) ?_ ?_
  · rintro av g K ⟨A, S, F, w, g0, d, dn, b, hA, rfl, rfl, hp0, hK⟩
    exact Nat.le_of_ble_eq_true rfl
  · rintro Z X av g K G ⟨A, S, F, w, g0, d, dn, b, hA, rfl, rfl, hp0, hK⟩
    show Z 0 [some (.ref (A 0)), some (.int d), some (.int (bI b))] [] _ _ _
    refine z_aload_n G dX3_reason_0 rfl rfl rfl ?_
    refine z_iconst G dX3_reason_1 rfl (v := 0) (by decide) ?_
    refine mz_put G hA dX3_reason_2 rfl (j := 0) fl_X3_42_2p rfl rfl (by decide) rfl ?_
    refine z_iload_n G dX3_reason_5 rfl rfl rfl ?_
    refine z_if_ge G dX3_reason_6 rfl (tgt := 15) (by decide) (fun c_6 => ?_) (fun c_6 => ?_)
    · have c_6n := Int32.not_lt.mpr c_6
      refine z_iload_n G dX3_reason_15 rfl rfl rfl ?_
      refine z_iconst G dX3_reason_16 rfl (v := 2) (by decide) ?_
      refine z_icmp_gt G dX3_reason_17 rfl (tgt := 29) (by decide) (fun c_17 => ?_) (fun c_17 => ?_)
      · have c_17n := Int32.not_le.mpr c_17
        refine z_aload_n G dX3_reason_29 rfl rfl rfl ?_
        refine z_iconst G dX3_reason_30 rfl (v := 2) (by decide) ?_
        refine z_V G dX3_reason_31 rfl m_X3_fails q2683 (C_X3_fails h0) (by decide) (As := [_]) rfl rfl (Nat.le_of_ble_eq_true rfl) (Nat.zero_le _) (Nat.zero_le _) (mhas hA) (⟨_, _, _, _, _, _, hA, rfl, rfl, ?_⟩)
        exact z_iret G dX3_reason_34 rfl rfl (by first | (rw [upd_upd]; simpa [q_res, isP, bI, c_6, c_6n, c_17, c_17n] using hK) | simpa [q_res, isP, bI, c_6, c_6n, c_17, c_17n] using hK)
      · have c_17n := Int32.not_lt.mp c_17
        obtain ⟨rfl, hq⟩ := hp0 (by simpa using c_6n) (by simpa using c_17n)
        refine z_aload_n G dX3_reason_20 rfl rfl rfl ?_
        refine mz_get G hA dX3_reason_21 rfl (j := 1) fl_X3_7_2 rfl ?_
        refine z_iload_n G dX3_reason_24 rfl rfl rfl ?_
        refine mz_ild G hA 1 (by decide) rfl dX3_reason_25 rfl (dn) rfl (by omega) (by decide) ?_
        refine z_if_ne G dX3_reason_26 rfl (tgt := 35) (by decide) (fun c_26 => ?_) (fun c_26 => ?_)
        · refine z_iload_n G dX3_reason_35 rfl rfl rfl ?_
          refine z_if_eq G dX3_reason_36 rfl (tgt := 48) (by decide) (fun c_36 => ?_) (fun c_36 => ?_)
          · have hb := bI_f c_36
            subst hb
            refine z_aload_n G dX3_reason_48 rfl rfl rfl ?_
            refine mz_get G hA dX3_reason_49 rfl (j := 1) fl_X3_7_2 rfl ?_
            refine z_iload_n G dX3_reason_52 rfl rfl rfl ?_
            refine mz_ild G hA 1 (by decide) rfl dX3_reason_53 rfl (dn) rfl (by omega) (by decide) ?_
            exact z_iret G dX3_reason_54 rfl rfl (by first | (rw [upd_upd]; simpa [q_res, isP, bI, c_6, c_6n, c_17, c_17n, c_26, c_36] using hK) | simpa [q_res, isP, bI, c_6, c_6n, c_17, c_17n, c_26, c_36] using hK)
          · have hb := bI_t c_36
            subst hb
            refine z_aload_n G dX3_reason_39 rfl rfl rfl ?_
            refine mz_get G hA dX3_reason_40 rfl (j := 2) fl_X3_13_2 rfl ?_
            refine z_iload_n G dX3_reason_43 rfl rfl rfl ?_
            refine mz_ild G hA 2 (by decide) rfl dX3_reason_44 rfl (dn) rfl (by omega) (by decide) ?_
            refine z_goto G dX3_reason_45 (tgt := 54) (by decide) ?_
            exact z_iret G dX3_reason_54 rfl rfl (by first | (rw [upd_upd]; simpa [q_res, isP, bI, c_6, c_6n, c_17, c_17n, c_26, c_36] using hK) | simpa [q_res, isP, bI, c_6, c_6n, c_17, c_17n, c_26, c_36] using hK)
        · refine z_aload_n G dX3_reason_29 rfl rfl rfl ?_
          refine z_iconst G dX3_reason_30 rfl (v := 2) (by decide) ?_
          refine z_V G dX3_reason_31 rfl m_X3_fails q2683 (C_X3_fails h0) (by decide) (As := [_]) rfl rfl (Nat.le_of_ble_eq_true rfl) (Nat.zero_le _) (Nat.zero_le _) (mhas hA) (⟨_, _, _, _, _, _, hA, rfl, rfl, ?_⟩)
          exact z_iret G dX3_reason_34 rfl rfl (by first | (rw [upd_upd]; simpa [q_res, isP, bI, c_6, c_6n, c_17, c_17n, c_26] using hK) | simpa [q_res, isP, bI, c_6, c_6n, c_17, c_17n, c_26] using hK)
    · have c_6n := Int32.not_le.mp c_6
      refine z_aload_n G dX3_reason_9 rfl rfl rfl ?_
      refine z_iconst G dX3_reason_10 rfl (v := 1) (by decide) ?_
      refine z_V G dX3_reason_11 rfl m_X3_fails q2683 (C_X3_fails h0) (by decide) (As := [_]) rfl rfl (Nat.le_of_ble_eq_true rfl) (Nat.zero_le _) (Nat.zero_le _) (mhas hA) (⟨_, _, _, _, _, _, hA, rfl, rfl, ?_⟩)
      exact z_iret G dX3_reason_14 rfl rfl (by first | (rw [upd_upd]; simpa [q_res, isP, bI, c_6, c_6n] using hK) | simpa [q_res, isP, bI, c_6, c_6n] using hK)
def T_X3_append : List Value → Hp → (Res → Hp → Prop) → Prop := fun av g K => ∃ (A : Nat → Nat) (S : Nat → Int32) (F : Nat → Nat → Int32) (w : Nat → Int32) (g0 : Hp) (c : Int32) (len : Nat), mok A ∧ g = mdl A S F w g0 ∧ av = [.ref (A 0), .int c] ∧ S 15 = nI len ∧ len ≤ 60 ∧ K (.inl (some (.int (q_app S c len).2))) (mdl A (if (q_app S c len).1 = 0 then upd (upd S 0 0) 15 (nI (len + 1)) else upd S 0 (q_app S c len).1) (if (q_app S c len).1 = 0 then upA F 14 (upd (F 14) len (vp_nar .char c)) else F) w g0)
theorem C_X3_append {l : Launch} {s0 : State} (h0 : St0 l s0) : Ctr l s0 yX3_append (ws_ yX3_append cX3_append 2 (Option.some Jvm.ClassFile.FieldType.int)) 2 0 0 T_X3_append := by
  refine ctr_of h0 (by decide) ?_ ?_
  · rintro av g K ⟨A, S, F, w, g0, c, len, hA, rfl, rfl, hp0, hp1, hK⟩
    exact Nat.le_of_ble_eq_true rfl
  · rintro Z X av g K G ⟨A, S, F, w, g0, c, len, hA, rfl, rfl, hp0, hp1, hK⟩
    show Z 0 [some (.ref (A 0)), some (.int c)] [] _ _ _
    refine z_aload_n G dX3_append_0 rfl rfl rfl ?_
    refine z_iconst G dX3_append_1 rfl (v := 0) (by decide) ?_
    refine mz_put G hA dX3_append_2 rfl (j := 0) fl_X3_42_2p rfl rfl (by decide) rfl ?_
    refine z_iload_n G dX3_append_5 rfl rfl rfl ?_
    refine z_bipush G dX3_append_6 rfl (v := 33) (by decide) ?_
    refine z_bipush G dX3_append_8 rfl (v := 126) (by decide) ?_
    refine z_S G dX3_append_10 rfl m_X3_isBetween q2668 (C_X3_isBetween h0) (by decide) (As := [_, _, _]) rfl rfl (Nat.le_of_ble_eq_true rfl) (Nat.zero_le _) (Nat.zero_le _) (⟨_, _, _, rfl, ?_⟩)
    refine z_if_ne G dX3_append_13 rfl (tgt := 22) (by decide) (fun c_13 => ?_) (fun c_13 => ?_)
    · have c_13b := bI_t c_13
      refine z_aload_n G dX3_append_22 rfl rfl rfl ?_
      refine mz_getN G hA dX3_append_23 rfl (j := 15) fl_X3_243_2 rfl (len) hp0 ?_
      refine z_bipush G dX3_append_26 rfl (v := 60) (by decide) ?_
      refine z_icmp_ne G dX3_append_28 rfl (tgt := 37) (by decide) (fun c_28 => ?_) (fun c_28 => ?_)
      · have c_28N := (not_congr <| nI_eq (a := len) (b := 60) (by omega) (by omega)).mp c_28
        refine z_aload_n G dX3_append_37 rfl rfl rfl ?_
        refine mz_get G hA dX3_append_38 rfl (j := 14) fl_X3_28_2 rfl ?_
        refine z_aload_n G dX3_append_41 rfl rfl rfl ?_
        refine mz_getN G hA dX3_append_42 rfl (j := 15) fl_X3_243_2 rfl (len) hp0 ?_
        refine z_iload_n G dX3_append_45 rfl rfl rfl ?_
        refine mz_cst G hA 14 (by decide) (by decide) (fun _ => rfl) dX3_append_46 rfl (len) rfl (by omega) (by decide) ?_
        refine z_aload_n G dX3_append_47 rfl rfl rfl ?_
        refine z_dup G dX3_append_48 rfl rfl ?_
        refine mz_getN G hA dX3_append_49 rfl (j := 15) fl_X3_243_2 rfl (len) hp0 ?_
        refine z_iconst G dX3_append_52 rfl (v := 1) (by decide) ?_
        refine z_iaddN G (len) (1) rfl rfl dX3_append_53 rfl ?_
        refine mz_put G hA dX3_append_54 rfl (j := 15) fl_X3_243_2p rfl rfl (by decide) rfl ?_
        refine z_aload_n G dX3_append_57 rfl rfl rfl ?_
        refine mz_getN G hA dX3_append_58 rfl (j := 15) fl_X3_243_2 rfl (len + 1) rfl ?_
        exact z_iret G dX3_append_61 rfl rfl (by rw [q_app, if_neg (by rw [c_13b]; decide), if_neg c_28N, if_pos rfl, if_pos rfl] at hK; exact hK)
      · have c_28N := (nI_eq (a := len) (b := 60) (by omega) (by omega)).mp c_28
        refine z_aload_n G dX3_append_31 rfl rfl rfl ?_
        refine z_iconst G dX3_append_32 rfl (v := 2) (by decide) ?_
        refine z_V G dX3_append_33 rfl m_X3_fails q2683 (C_X3_fails h0) (by decide) (As := [_]) rfl rfl (Nat.le_of_ble_eq_true rfl) (Nat.zero_le _) (Nat.zero_le _) (mhas hA) (⟨_, _, _, _, _, _, hA, rfl, rfl, ?_⟩)
        exact z_iret G dX3_append_36 rfl rfl (by rw [upd_upd]; rw [q_app, if_neg (by rw [c_13b]; decide), if_pos c_28N, if_neg (show ¬ (2 : Int32) = 0 by decide), if_neg (show ¬ (2 : Int32) = 0 by decide)] at hK; exact hK)
    · have c_13b := bI_f c_13
      refine z_aload_n G dX3_append_16 rfl rfl rfl ?_
      refine z_iconst G dX3_append_17 rfl (v := 1) (by decide) ?_
      refine z_V G dX3_append_18 rfl m_X3_fails q2683 (C_X3_fails h0) (by decide) (As := [_]) rfl rfl (Nat.le_of_ble_eq_true rfl) (Nat.zero_le _) (Nat.zero_le _) (mhas hA) (⟨_, _, _, _, _, _, hA, rfl, rfl, ?_⟩)
      exact z_iret G dX3_append_21 rfl rfl (by rw [upd_upd]; rw [q_app, if_pos c_13b, if_neg (show ¬ (1 : Int32) = 0 by decide), if_neg (show ¬ (1 : Int32) = 0 by decide)] at hK; exact hK)
def T_X3_drawing : List Value → Hp → (Res → Hp → Prop) → Prop := fun av g K => ∃ (A : Nat → Nat) (S : Nat → Int32) (F : Nat → Nat → Int32) (w : Nat → Int32) (g0 : Hp) (np : Nat), mok A ∧ g = mdl A S F w g0 ∧ av = [.ref (A 0)] ∧ w 2 = nI np ∧ np ≤ 10 ∧ K (.inl (some (.int (nI (r_wst w np))))) g
theorem C_X3_drawing {l : Launch} {s0 : State} (h0 : St0 l s0) : Ctr l s0 yX3_drawing (ws_ yX3_drawing cX3_drawing 3 (Option.some Jvm.ClassFile.FieldType.int)) 3 0 0 T_X3_drawing := by
  refine ctr_of h0 (by decide) ?_ ?_
  · rintro av g K ⟨A, S, F, w, g0, np, hA, rfl, rfl, hp0, hp1, hK⟩
    exact Nat.le_of_ble_eq_true rfl
  · rintro Z X av g K G ⟨A, S, F, w, g0, np, hA, rfl, rfl, hp0, hp1, hK⟩
    show Z 0 [some (.ref (A 0)), none, none] [] _ _ _
    refine z_iconst G dX3_drawing_0 rfl (v := 0) (by decide) ?_
    refine z_istore_n G dX3_drawing_1 rfl (i := 1) rfl (by decide) (zcat_s rfl) (show Z 2 [_, _, _] _ _ _ _ from ?_)
    refine z_iconst G dX3_drawing_2 rfl (v := 0) (by decide) ?_
    refine z_istore_n G dX3_drawing_3 rfl (i := 2) rfl (by decide) (zcat_s rfl) (show Z 4 [_, _, _] _ _ _ _ from ?_)
    have L4 : ∀ (n i v : Nat), i + n = np → v = r_wst w i → Z 4 [some (.ref (A 0)), some (.int (nI v)), some (.int (nI i))] [] (mdl A S F w g0) 0 0 := by
      intro n
      induction n with
      | zero =>
        intro i v hi hv
        refine z_iload_n G dX3_drawing_4 rfl rfl rfl ?_
        refine z_aload_n G dX3_drawing_5 rfl rfl rfl ?_
        refine mz_get G hA dX3_drawing_6 rfl (j := 7) fl_X3_16_2 rfl ?_
        refine z_iconst G dX3_drawing_9 rfl (v := 2) (by decide) ?_
        refine mz_wldN G hA dX3_drawing_10 rfl (2) rfl (by decide) (np) hp0 ?_
        refine z_icmp_ge G dX3_drawing_11 rfl (tgt := 36) (by decide) (fun c_11 => ?_) (fun c_11 => ?_)
        · have c_11n := Int32.not_lt.mpr c_11
          have c_11N := (nI_leI (a := np) (b := i) (by omega) (by omega)).mp c_11
          obtain rfl : i = np := by omega
          subst hv
          refine z_iload_n G dX3_drawing_36 rfl rfl rfl ?_
          exact z_iret G dX3_drawing_37 rfl rfl (hK)
        · exact absurd ((not_congr <| nI_leI (a := np) (b := i) (by omega) (by omega)).mp c_11) (by omega)
      | succ n ih =>
        intro i v hi hv
        refine z_iload_n G dX3_drawing_4 rfl rfl rfl ?_
        refine z_aload_n G dX3_drawing_5 rfl rfl rfl ?_
        refine mz_get G hA dX3_drawing_6 rfl (j := 7) fl_X3_16_2 rfl ?_
        refine z_iconst G dX3_drawing_9 rfl (v := 2) (by decide) ?_
        refine mz_wldN G hA dX3_drawing_10 rfl (2) rfl (by decide) (np) hp0 ?_
        refine z_icmp_ge G dX3_drawing_11 rfl (tgt := 36) (by decide) (fun c_11 => ?_) (fun c_11 => ?_)
        · exact absurd ((nI_leI (a := np) (b := i) (by omega) (by omega)).mp c_11) (by omega)
        · have c_11n := Int32.not_le.mp c_11
          have c_11N := (not_congr <| nI_leI (a := np) (b := i) (by omega) (by omega)).mp c_11
          refine z_iload_n G dX3_drawing_14 rfl rfl rfl ?_
          refine z_aload_n G dX3_drawing_15 rfl rfl rfl ?_
          refine z_iload_n G dX3_drawing_16 rfl rfl rfl ?_
          refine z_V G dX3_drawing_17 rfl m_X3_whyNot q2847 (C_X3_whyNot h0) (by decide) (As := [_]) rfl rfl (Nat.le_of_ble_eq_true rfl) (Nat.zero_le _) (Nat.zero_le _) (mhas hA) (⟨_, _, _, _, _, _, hA, rfl, rfl, (by first | assumption | decide | omega), ?_⟩)
          refine z_if_ge G dX3_drawing_20 rfl (tgt := 27) (by decide) (fun c_20 => ?_) (fun c_20 => ?_)
          · have c_20n := Int32.not_lt.mpr c_20
            refine z_iconst G dX3_drawing_27 rfl (v := 0) (by decide) ?_
            refine z_iaddN G (v) (0) rfl rfl dX3_drawing_28 rfl ?_
            refine z_istore_n G dX3_drawing_29 rfl (i := 1) rfl (by decide) (zcat_s rfl) (show Z 30 [_, _, _] _ _ _ _ from ?_)
            refine z_iinc G dX3_drawing_30 rfl rfl (nI_1 _) (by decide) (zcat_s rfl) (show Z 33 [_, _, _] _ _ _ _ from ?_)
            refine z_goto G dX3_drawing_33 (tgt := 4) (by decide) ?_
            exact ih (i + 1) _ (by omega) (by rw [hv]; simp [r_wst, c_11, c_11n, c_11N, c_20, c_20n])
          · have c_20n := Int32.not_le.mp c_20
            refine z_iconst G dX3_drawing_23 rfl (v := 1) (by decide) ?_
            refine z_goto G dX3_drawing_24 (tgt := 28) (by decide) ?_
            refine z_iaddN G (v) (1) rfl rfl dX3_drawing_28 rfl ?_
            refine z_istore_n G dX3_drawing_29 rfl (i := 1) rfl (by decide) (zcat_s rfl) (show Z 30 [_, _, _] _ _ _ _ from ?_)
            refine z_iinc G dX3_drawing_30 rfl rfl (nI_1 _) (by decide) (zcat_s rfl) (show Z 33 [_, _, _] _ _ _ _ from ?_)
            refine z_goto G dX3_drawing_33 (tgt := 4) (by decide) ?_
            exact ih (i + 1) _ (by omega) (by rw [hv]; simp [r_wst, c_11, c_11n, c_11N, c_20, c_20n])
    exact L4 np 0 0 (by omega) rfl
def T_X3_inchesNow : List Value → Hp → (Res → Hp → Prop) → Prop := fun av g K => ∃ (A : Nat → Nat) (S : Nat → Int32) (F : Nat → Nat → Int32) (w : Nat → Int32) (g0 : Hp) , mok A ∧ g = mdl A S F w g0 ∧ av = [.ref (A 0)] ∧ K (.inl (some (.int (r_inn w 6)))) g
theorem C_X3_inchesNow {l : Launch} {s0 : State} (h0 : St0 l s0) : Ctr l s0 yX3_inchesNow (ws_ yX3_inchesNow cX3_inchesNow 3 (Option.some Jvm.ClassFile.FieldType.int)) 1 0 0 T_X3_inchesNow := by
  refine ctr_of h0 (by decide) ?_ ?_
  · rintro av g K ⟨A, S, F, w, g0, hA, rfl, rfl, hK⟩
    exact Nat.le_of_ble_eq_true rfl
  · rintro Z X av g K G ⟨A, S, F, w, g0, hA, rfl, rfl, hK⟩
    show Z 0 [some (.ref (A 0)), none, none] [] _ _ _
    refine z_iconst G dX3_inchesNow_0 rfl (v := 0) (by decide) ?_
    refine z_istore_n G dX3_inchesNow_1 rfl (i := 1) rfl (by decide) (zcat_s rfl) (show Z 2 [_, _, _] _ _ _ _ from ?_)
    refine z_iconst G dX3_inchesNow_2 rfl (v := 1) (by decide) ?_
    refine z_istore_n G dX3_inchesNow_3 rfl (i := 2) rfl (by decide) (zcat_s rfl) (show Z 4 [_, _, _] _ _ _ _ from ?_)
    have L4 : ∀ (n i : Nat) (v : Int32), i + n = 7 → 1 ≤ i → v = r_inn w (i - 1) → Z 4 [some (.ref (A 0)), some (.int v), some (.int (nI i))] [] (mdl A S F w g0) 0 0 := by
      intro n
      induction n with
      | zero =>
        intro i v hi h1 hv
        refine z_iload_n G dX3_inchesNow_4 rfl rfl rfl ?_
        refine z_bipush G dX3_inchesNow_5 rfl (v := 6) (by decide) ?_
        refine z_icmp_gt G dX3_inchesNow_7 rfl (tgt := 30) (by decide) (fun c_7 => ?_) (fun c_7 => ?_)
        · have c_7n := Int32.not_le.mpr c_7
          have c_7N := (nI_ltI (a := 6) (b := i) (by omega) (by omega)).mp c_7
          obtain rfl : i = 7 := by omega
          subst hv
          refine z_iload_n G dX3_inchesNow_30 rfl rfl rfl ?_
          exact z_iret G dX3_inchesNow_31 rfl rfl (hK)
        · exact absurd ((not_congr <| nI_ltI (a := 6) (b := i) (by omega) (by omega)).mp c_7) (by omega)
      | succ n ih =>
        intro i v hi h1 hv
        refine z_iload_n G dX3_inchesNow_4 rfl rfl rfl ?_
        refine z_bipush G dX3_inchesNow_5 rfl (v := 6) (by decide) ?_
        refine z_icmp_gt G dX3_inchesNow_7 rfl (tgt := 30) (by decide) (fun c_7 => ?_) (fun c_7 => ?_)
        · exact absurd ((nI_ltI (a := 6) (b := i) (by omega) (by omega)).mp c_7) (by omega)
        · have c_7n := Int32.not_lt.mp c_7
          have c_7N := (not_congr <| nI_ltI (a := 6) (b := i) (by omega) (by omega)).mp c_7
          refine z_iload_n G dX3_inchesNow_10 rfl rfl rfl ?_
          refine z_iload_n G dX3_inchesNow_11 rfl rfl rfl ?_
          refine z_aload_n G dX3_inchesNow_12 rfl rfl rfl ?_
          refine mz_get G hA dX3_inchesNow_13 rfl (j := 7) fl_X3_16_2 rfl ?_
          refine z_bipush G dX3_inchesNow_16 rfl (v := 42) (by decide) ?_
          refine z_iload_n G dX3_inchesNow_18 rfl rfl rfl ?_
          refine z_iaddN G (42) (i) rfl rfl dX3_inchesNow_19 rfl ?_
          refine mz_wld G hA dX3_inchesNow_20 rfl (42 + i) rfl (by omega) ?_
          refine z_imul G dX3_inchesNow_21 rfl ?_
          refine z_iadd G dX3_inchesNow_22 rfl ?_
          refine z_istore_n G dX3_inchesNow_23 rfl (i := 1) rfl (by decide) (zcat_s rfl) (show Z 24 [_, _, _] _ _ _ _ from ?_)
          refine z_iinc G dX3_inchesNow_24 rfl rfl (nI_1 _) (by decide) (zcat_s rfl) (show Z 27 [_, _, _] _ _ _ _ from ?_)
          refine z_goto G dX3_inchesNow_27 (tgt := 4) (by decide) ?_
          exact ih (i + 1) _ (by omega) (by omega) (by obtain ⟨j, rfl⟩ : ∃ j, i = j + 1 := ⟨i - 1, by omega⟩; rw [hv]; rfl)
    exact L4 6 1 0 rfl (by decide) rfl
def T_X3_save : List Value → Hp → (Res → Hp → Prop) → Prop := fun av g K => ∃ (A : Nat → Nat) (S : Nat → Int32) (F : Nat → Nat → Int32) (w : Nat → Int32) (g0 : Hp) , mok A ∧ g = mdl A S F w g0 ∧ av = [.ref (A 0)] ∧ K (.inl (some (.int (w 0)))) (mdl A (upd (upd S 0 0) 13 1) (upA F 9 (va_cpy w (F 9) 0 0 99)) w g0)
theorem C_X3_save {l : Launch} {s0 : State} (h0 : St0 l s0) : Ctr l s0 yX3_save (ws_ yX3_save cX3_save 2 (Option.some Jvm.ClassFile.FieldType.int)) 1 0 0 T_X3_save := by
  refine ctr_of h0 (by decide) ?_ ?_
  · rintro av g K ⟨A, S, F, w, g0, hA, rfl, rfl, hK⟩
    exact Nat.le_of_ble_eq_true rfl
  · rintro Z X av g K G ⟨A, S, F, w, g0, hA, rfl, rfl, hK⟩
    show Z 0 [some (.ref (A 0)), none] [] _ _ _
    refine z_aload_n G dX3_save_0 rfl rfl rfl ?_
    refine z_iconst G dX3_save_1 rfl (v := 0) (by decide) ?_
    refine mz_put G hA dX3_save_2 rfl (j := 0) fl_X3_42_2p rfl rfl (by decide) rfl ?_
    refine z_iconst G dX3_save_5 rfl (v := 0) (by decide) ?_
    refine z_istore_n G dX3_save_6 rfl (i := 1) rfl (by decide) (zcat_s rfl) (show Z 7 [_, _] _ _ _ _ from ?_)
    have L7 : ∀ (n i : Nat) (F' : Nat → Nat → Int32), i + n = 99 → F' = upA F 9 (va_cpy w (F 9) 0 0 i) → Z 7 [some (.ref (A 0)), some (.int (nI i))] [] (mdl A (upd S 0 0) F' w g0) 0 0 := by
      intro n
      induction n with
      | zero =>
        intro i F' hi hF
        refine z_iload_n G dX3_save_7 rfl rfl rfl ?_
        refine z_bipush G dX3_save_8 rfl (v := 99) (by decide) ?_
        refine z_icmp_ge G dX3_save_10 rfl (tgt := 31) (by decide) (fun c_10 => ?_) (fun c_10 => ?_)
        · have c_10n := Int32.not_lt.mpr c_10
          have c_10N := (nI_leI (a := 99) (b := i) (by omega) (by omega)).mp c_10
          obtain rfl : i = 99 := by omega
          subst hF
          refine z_aload_n G dX3_save_31 rfl rfl rfl ?_
          refine z_iconst G dX3_save_32 rfl (v := 1) (by decide) ?_
          refine mz_put G hA dX3_save_33 rfl (j := 13) fl_X3_310_2p rfl rfl (by decide) rfl ?_
          refine z_aload_n G dX3_save_36 rfl rfl rfl ?_
          refine mz_get G hA dX3_save_37 rfl (j := 7) fl_X3_16_2 rfl ?_
          refine z_iconst G dX3_save_40 rfl (v := 0) (by decide) ?_
          refine mz_wld G hA dX3_save_41 rfl (0) rfl (by decide) ?_
          exact z_iret G dX3_save_42 rfl rfl (hK)
        · exact absurd ((not_congr <| nI_leI (a := 99) (b := i) (by omega) (by omega)).mp c_10) (by omega)
      | succ n ih =>
        intro i F' hi hF
        refine z_iload_n G dX3_save_7 rfl rfl rfl ?_
        refine z_bipush G dX3_save_8 rfl (v := 99) (by decide) ?_
        refine z_icmp_ge G dX3_save_10 rfl (tgt := 31) (by decide) (fun c_10 => ?_) (fun c_10 => ?_)
        · exact absurd ((nI_leI (a := 99) (b := i) (by omega) (by omega)).mp c_10) (by omega)
        · have c_10n := Int32.not_le.mp c_10
          have c_10N := (not_congr <| nI_leI (a := 99) (b := i) (by omega) (by omega)).mp c_10
          refine z_aload_n G dX3_save_13 rfl rfl rfl ?_
          refine mz_get G hA dX3_save_14 rfl (j := 9) fl_X3_22_2 rfl ?_
          refine z_iload_n G dX3_save_17 rfl rfl rfl ?_
          refine z_aload_n G dX3_save_18 rfl rfl rfl ?_
          refine mz_get G hA dX3_save_19 rfl (j := 7) fl_X3_16_2 rfl ?_
          refine z_iload_n G dX3_save_22 rfl rfl rfl ?_
          refine mz_wld G hA dX3_save_23 rfl (i) rfl (by omega) ?_
          refine mz_ist G hA 9 (by decide) (by decide) (fun _ => rfl) dX3_save_24 rfl (i) rfl (by omega) (by decide) ?_
          refine z_iinc G dX3_save_25 rfl rfl (nI_1 _) (by decide) (zcat_s rfl) (show Z 28 [_, _] _ _ _ _ from ?_)
          refine z_goto G dX3_save_28 (tgt := 7) (by decide) ?_
          exact ih (i + 1) _ (by omega) (by rw [hF, upA_s, upA_upA, ← cpy_s, Nat.zero_add])
    exact L7 99 0 F rfl (by rw [cpy_0, upA_id])
def T_X3_restore : List Value → Hp → (Res → Hp → Prop) → Prop := fun av g K => ∃ (A : Nat → Nat) (S : Nat → Int32) (F : Nat → Nat → Int32) (w : Nat → Int32) (g0 : Hp) , mok A ∧ g = mdl A S F w g0 ∧ av = [.ref (A 0)] ∧ (S 13 = 0 → K (.inl (some (.int 0))) (mdl A (upd S 0 1) F w g0)) ∧ (¬ S 13 = 0 → K (.inl (some (.int (va_cpy (F 9) w 0 0 99 0)))) (mdl A (upd (upd (upd S 0 0) 11 0) 12 0) F (va_cpy (F 9) w 0 0 99) g0))
theorem C_X3_restore {l : Launch} {s0 : State} (h0 : St0 l s0) : Ctr l s0 yX3_restore (ws_ yX3_restore cX3_restore 2 (Option.some Jvm.ClassFile.FieldType.int)) 2 0 0 T_X3_restore := by
  refine ctr_of h0 (by decide) ?_ ?_
  · rintro av g K ⟨A, S, F, w, g0, hA, rfl, rfl, hK0, hK1⟩
    exact Nat.le_of_ble_eq_true rfl
  · rintro Z X av g K G ⟨A, S, F, w, g0, hA, rfl, rfl, hK0, hK1⟩
    show Z 0 [some (.ref (A 0)), none] [] _ _ _
    refine z_aload_n G dX3_restore_0 rfl rfl rfl ?_
    refine z_iconst G dX3_restore_1 rfl (v := 0) (by decide) ?_
    refine mz_put G hA dX3_restore_2 rfl (j := 0) fl_X3_42_2p rfl rfl (by decide) rfl ?_
    refine z_aload_n G dX3_restore_5 rfl rfl rfl ?_
    refine mz_get G hA dX3_restore_6 rfl (j := 13) fl_X3_310_2 rfl ?_
    refine z_if_ne G dX3_restore_9 rfl (tgt := 18) (by decide) (fun c_9 => ?_) (fun c_9 => ?_)
    · have hc : ¬ S 13 = 0 := c_9
      refine z_iconst G dX3_restore_18 rfl (v := 0) (by decide) ?_
      refine z_istore_n G dX3_restore_19 rfl (i := 1) rfl (by decide) (zcat_s rfl) (show Z 20 [_, _] _ _ _ _ from ?_)
      have L20 : ∀ (n i : Nat) (w' : Nat → Int32), i + n = 99 → w' = va_cpy (F 9) w 0 0 i → Z 20 [some (.ref (A 0)), some (.int (nI i))] [] (mdl A (upd S 0 0) F w' g0) 0 0 := by
        intro n
        induction n with
        | zero =>
          intro i w' hi hw
          refine z_iload_n G dX3_restore_20 rfl rfl rfl ?_
          refine z_bipush G dX3_restore_21 rfl (v := 99) (by decide) ?_
          refine z_icmp_ge G dX3_restore_23 rfl (tgt := 44) (by decide) (fun c_23 => ?_) (fun c_23 => ?_)
          · have c_23n := Int32.not_lt.mpr c_23
            have c_23N := (nI_leI (a := 99) (b := i) (by omega) (by omega)).mp c_23
            obtain rfl : i = 99 := by omega
            subst hw
            refine z_aload_n G dX3_restore_44 rfl rfl rfl ?_
            refine z_iconst G dX3_restore_45 rfl (v := 0) (by decide) ?_
            refine mz_put G hA dX3_restore_46 rfl (j := 11) fl_X3_65_2p rfl rfl (by decide) rfl ?_
            refine z_aload_n G dX3_restore_49 rfl rfl rfl ?_
            refine z_iconst G dX3_restore_50 rfl (v := 0) (by decide) ?_
            refine mz_put G hA dX3_restore_51 rfl (j := 12) fl_X3_68_2p rfl rfl (by decide) rfl ?_
            refine z_aload_n G dX3_restore_54 rfl rfl rfl ?_
            refine mz_get G hA dX3_restore_55 rfl (j := 7) fl_X3_16_2 rfl ?_
            refine z_iconst G dX3_restore_58 rfl (v := 0) (by decide) ?_
            refine mz_wld G hA dX3_restore_59 rfl (0) rfl (by decide) ?_
            exact z_iret G dX3_restore_60 rfl rfl (hK1 hc)
          · exact absurd ((not_congr <| nI_leI (a := 99) (b := i) (by omega) (by omega)).mp c_23) (by omega)
        | succ n ih =>
          intro i w' hi hw
          refine z_iload_n G dX3_restore_20 rfl rfl rfl ?_
          refine z_bipush G dX3_restore_21 rfl (v := 99) (by decide) ?_
          refine z_icmp_ge G dX3_restore_23 rfl (tgt := 44) (by decide) (fun c_23 => ?_) (fun c_23 => ?_)
          · exact absurd ((nI_leI (a := 99) (b := i) (by omega) (by omega)).mp c_23) (by omega)
          · have c_23n := Int32.not_le.mp c_23
            have c_23N := (not_congr <| nI_leI (a := 99) (b := i) (by omega) (by omega)).mp c_23
            refine z_aload_n G dX3_restore_26 rfl rfl rfl ?_
            refine mz_get G hA dX3_restore_27 rfl (j := 7) fl_X3_16_2 rfl ?_
            refine z_iload_n G dX3_restore_30 rfl rfl rfl ?_
            refine z_aload_n G dX3_restore_31 rfl rfl rfl ?_
            refine mz_get G hA dX3_restore_32 rfl (j := 9) fl_X3_22_2 rfl ?_
            refine z_iload_n G dX3_restore_35 rfl rfl rfl ?_
            refine mz_ild G hA 9 (by decide) rfl dX3_restore_36 rfl (i) rfl (by omega) (by decide) ?_
            refine mz_wst G hA dX3_restore_37 rfl (i) rfl (by omega) ?_
            refine z_iinc G dX3_restore_38 rfl rfl (nI_1 _) (by decide) (zcat_s rfl) (show Z 41 [_, _] _ _ _ _ from ?_)
            refine z_goto G dX3_restore_41 (tgt := 20) (by decide) ?_
            exact ih (i + 1) _ (by omega) (by rw [hw, ← cpy_s, Nat.zero_add])
      exact L20 99 0 w rfl (by rw [cpy_0])
    · have c_9 : S 13 = 0 := c_9
      refine z_aload_n G dX3_restore_12 rfl rfl rfl ?_
      refine z_iconst G dX3_restore_13 rfl (v := 1) (by decide) ?_
      refine z_V G dX3_restore_14 rfl m_X3_fails q2683 (C_X3_fails h0) (by decide) (As := [_]) rfl rfl (Nat.le_of_ble_eq_true rfl) (Nat.zero_le _) (Nat.zero_le _) (mhas hA) (⟨_, _, _, _, _, _, hA, rfl, rfl, ?_⟩)
      exact z_iret G dX3_restore_17 rfl rfl (by rw [upd_upd]; exact hK0 c_9)
def T_X3_undo : List Value → Hp → (Res → Hp → Prop) → Prop := fun av g K => ∃ (A : Nat → Nat) (S : Nat → Int32) (F : Nat → Nat → Int32) (w : Nat → Int32) (g0 : Hp) (c f : Nat), mok A ∧ g = mdl A S F w g0 ∧ av = [.ref (A 0)] ∧ S 11 = nI c ∧ c ≤ 8 ∧ S 12 = nI f ∧ f < 8 ∧ (c = 0 → K (.inl (some (.int 0))) (mdl A (upd S 0 1) F w g0)) ∧ (¬ c = 0 → K (.inl (some (.int (nI (c - 1))))) (mdl A (upd (upd S 0 0) 11 (nI (c - 1))) F (va_cpy (F 8) w (99 * ((f + (c - 1)) % 8)) 0 99) g0))
theorem C_X3_undo {l : Launch} {s0 : State} (h0 : St0 l s0) : Ctr l s0 yX3_undo (ws_ yX3_undo cX3_undo 3 (Option.some Jvm.ClassFile.FieldType.int)) 2 0 0 T_X3_undo := by
  refine ctr_of h0 (by decide) ?_ ?_
  · rintro av g K ⟨A, S, F, w, g0, c, f, hA, rfl, rfl, hp0, hp1, hp2, hp3, hK0, hK1⟩
    exact Nat.le_of_ble_eq_true rfl
  · rintro Z X av g K G ⟨A, S, F, w, g0, c, f, hA, rfl, rfl, hp0, hp1, hp2, hp3, hK0, hK1⟩
    show Z 0 [some (.ref (A 0)), none, none] [] _ _ _
    refine z_aload_n G dX3_undo_0 rfl rfl rfl ?_
    refine z_iconst G dX3_undo_1 rfl (v := 0) (by decide) ?_
    refine mz_put G hA dX3_undo_2 rfl (j := 0) fl_X3_42_2p rfl rfl (by decide) rfl ?_
    refine z_aload_n G dX3_undo_5 rfl rfl rfl ?_
    refine mz_getN G hA dX3_undo_6 rfl (j := 11) fl_X3_65_2 rfl (c) hp0 ?_
    refine z_if_ne G dX3_undo_9 rfl (tgt := 18) (by decide) (fun c_9 => ?_) (fun c_9 => ?_)
    · have c_9N := (not_congr <| nI_eq (a := c) (b := 0) (by omega) (by omega)).mp c_9
      refine z_aload_n G dX3_undo_18 rfl rfl rfl ?_
      refine z_dup G dX3_undo_19 rfl rfl ?_
      refine mz_getN G hA dX3_undo_20 rfl (j := 11) fl_X3_65_2 rfl (c) hp0 ?_
      refine z_iconst G dX3_undo_23 rfl (v := 1) (by decide) ?_
      refine z_isubN G (c) (1) rfl rfl (by omega) dX3_undo_24 rfl ?_
      refine mz_put G hA dX3_undo_25 rfl (j := 11) fl_X3_65_2p rfl rfl (by decide) rfl ?_
      refine z_aload_n G dX3_undo_28 rfl rfl rfl ?_
      refine mz_getN G hA dX3_undo_29 rfl (j := 12) fl_X3_68_2 rfl (f) hp2 ?_
      refine z_aload_n G dX3_undo_32 rfl rfl rfl ?_
      refine mz_getN G hA dX3_undo_33 rfl (j := 11) fl_X3_65_2 rfl (c - 1) rfl ?_
      refine z_iaddN G (f) (c - 1) rfl rfl dX3_undo_36 rfl ?_
      refine z_bipush G dX3_undo_37 rfl (v := 8) (by decide) ?_
      refine z_iremN G (f + (c - 1)) (8) rfl rfl (by omega) (by omega) (by omega) dX3_undo_39 rfl ?_
      refine z_istore_n G dX3_undo_40 rfl (i := 1) rfl (by decide) (zcat_s rfl) (show Z 41 [_, _, _] _ _ _ _ from ?_)
      refine z_iconst G dX3_undo_41 rfl (v := 0) (by decide) ?_
      refine z_istore_n G dX3_undo_42 rfl (i := 2) rfl (by decide) (zcat_s rfl) (show Z 43 [_, _, _] _ _ _ _ from ?_)
      have L43 : ∀ (n i t : Nat) (w' : Nat → Int32), i + n = 99 → t < 8 → w' = va_cpy (F 8) w (99 * t) 0 i → K (.inl (some (.int (nI (c - 1))))) (mdl A (upd (upd S 0 0) 11 (nI (c - 1))) F (va_cpy (F 8) w (99 * t) 0 99) g0) → Z 43 [some (.ref (A 0)), some (.int (nI t)), some (.int (nI i))] [] (mdl A (upd (upd S 0 0) 11 (nI (c - 1))) F w' g0) 0 0 := by
        intro n
        induction n with
        | zero =>
          intro i t w' hi ht hw hK
          refine z_iload_n G dX3_undo_43 rfl rfl rfl ?_
          refine z_bipush G dX3_undo_44 rfl (v := 99) (by decide) ?_
          refine z_icmp_ge G dX3_undo_46 rfl (tgt := 72) (by decide) (fun c_46 => ?_) (fun c_46 => ?_)
          · have c_46n := Int32.not_lt.mpr c_46
            have c_46N := (nI_leI (a := 99) (b := i) (by omega) (by omega)).mp c_46
            obtain rfl : i = 99 := by omega
            subst hw
            refine z_aload_n G dX3_undo_72 rfl rfl rfl ?_
            refine mz_getN G hA dX3_undo_73 rfl (j := 11) fl_X3_65_2 rfl (c - 1) rfl ?_
            exact z_iret G dX3_undo_76 rfl rfl (hK)
          · exact absurd ((not_congr <| nI_leI (a := 99) (b := i) (by omega) (by omega)).mp c_46) (by omega)
        | succ n ih =>
          intro i t w' hi ht hw hK
          refine z_iload_n G dX3_undo_43 rfl rfl rfl ?_
          refine z_bipush G dX3_undo_44 rfl (v := 99) (by decide) ?_
          refine z_icmp_ge G dX3_undo_46 rfl (tgt := 72) (by decide) (fun c_46 => ?_) (fun c_46 => ?_)
          · exact absurd ((nI_leI (a := 99) (b := i) (by omega) (by omega)).mp c_46) (by omega)
          · have c_46n := Int32.not_le.mp c_46
            have c_46N := (not_congr <| nI_leI (a := 99) (b := i) (by omega) (by omega)).mp c_46
            refine z_aload_n G dX3_undo_49 rfl rfl rfl ?_
            refine mz_get G hA dX3_undo_50 rfl (j := 7) fl_X3_16_2 rfl ?_
            refine z_iload_n G dX3_undo_53 rfl rfl rfl ?_
            refine z_aload_n G dX3_undo_54 rfl rfl rfl ?_
            refine mz_get G hA dX3_undo_55 rfl (j := 8) fl_X3_19_2 rfl ?_
            refine z_bipush G dX3_undo_58 rfl (v := 99) (by decide) ?_
            refine z_iload_n G dX3_undo_60 rfl rfl rfl ?_
            refine z_imulN G (99) (t) rfl rfl dX3_undo_61 rfl ?_
            refine z_iload_n G dX3_undo_62 rfl rfl rfl ?_
            refine z_iaddN G (99 * t) (i) rfl rfl dX3_undo_63 rfl ?_
            refine mz_ild G hA 8 (by decide) rfl dX3_undo_64 rfl (99 * t + i) rfl (by omega) (by decide) ?_
            refine mz_wst G hA dX3_undo_65 rfl (i) rfl (by omega) ?_
            refine z_iinc G dX3_undo_66 rfl rfl (nI_1 _) (by decide) (zcat_s rfl) (show Z 69 [_, _, _] _ _ _ _ from ?_)
            refine z_goto G dX3_undo_69 (tgt := 43) (by decide) ?_
            exact ih (i + 1) t _ (by omega) ht (by rw [hw, ← cpy_s, Nat.zero_add]) hK
      exact L43 99 0 _ w rfl (Nat.mod_lt _ (by decide)) (by rw [cpy_0]) (hK1 c_9N)
    · have c_9N := (nI_eq (a := c) (b := 0) (by omega) (by omega)).mp c_9
      refine z_aload_n G dX3_undo_12 rfl rfl rfl ?_
      refine z_iconst G dX3_undo_13 rfl (v := 1) (by decide) ?_
      refine z_V G dX3_undo_14 rfl m_X3_fails q2683 (C_X3_fails h0) (by decide) (As := [_]) rfl rfl (Nat.le_of_ble_eq_true rfl) (Nat.zero_le _) (Nat.zero_le _) (mhas hA) (⟨_, _, _, _, _, _, hA, rfl, rfl, ?_⟩)
      exact z_iret G dX3_undo_17 rfl rfl (by rw [upd_upd]; exact hK0 c_9N)
def T_X3_meanStem : List Value → Hp → (Res → Hp → Prop) → Prop := fun av g K => ∃ (A : Nat → Nat) (S : Nat → Int32) (F : Nat → Nat → Int32) (w : Nat → Int32) (g0 : Hp) (np : Nat), mok A ∧ g = mdl A S F w g0 ∧ av = [.ref (A 0)] ∧ w 2 = nI np ∧ np ≤ 10 ∧ (∀ p, p < np → pw w p 0 = nI (stN w p) ∧ stN w p ≤ 12) ∧ (np = 0 → K (.inl (some (.double (FP.i2d 0)))) (mdl A (upd S 0 1) F w g0)) ∧ (¬ np = 0 → K (.inl (some (.double (FP.ddiv (FP.i2d (nI (r_sum w np))) (FP.i2d (nI np)))))) (mdl A (upd S 0 0) F w g0))
theorem C_X3_meanStem {l : Launch} {s0 : State} (h0 : St0 l s0) : Ctr l s0 yX3_meanStem (ws_ yX3_meanStem cX3_meanStem 3 (Option.some Jvm.ClassFile.FieldType.double)) 2 0 0 T_X3_meanStem := by
  refine ctr_of h0 (by decide) ?_ ?_
  · rintro av g K ⟨A, S, F, w, g0, np, hA, rfl, rfl, hp0, hp1, hp2, hK0, hK1⟩
    exact Nat.le_of_ble_eq_true rfl
  · rintro Z X av g K G ⟨A, S, F, w, g0, np, hA, rfl, rfl, hp0, hp1, hp2, hK0, hK1⟩
    show Z 0 [some (.ref (A 0)), none, none] [] _ _ _
    refine z_aload_n G dX3_meanStem_0 rfl rfl rfl ?_
    refine z_iconst G dX3_meanStem_1 rfl (v := 0) (by decide) ?_
    refine mz_put G hA dX3_meanStem_2 rfl (j := 0) fl_X3_42_2p rfl rfl (by decide) rfl ?_
    refine z_aload_n G dX3_meanStem_5 rfl rfl rfl ?_
    refine mz_get G hA dX3_meanStem_6 rfl (j := 7) fl_X3_16_2 rfl ?_
    refine z_iconst G dX3_meanStem_9 rfl (v := 2) (by decide) ?_
    refine mz_wldN G hA dX3_meanStem_10 rfl (2) rfl (by decide) (np) hp0 ?_
    refine z_if_ne G dX3_meanStem_11 rfl (tgt := 21) (by decide) (fun c_11 => ?_) (fun c_11 => ?_)
    · have c_11N := (not_congr <| nI_eq (a := np) (b := 0) (by omega) (by omega)).mp c_11
      refine z_iconst G dX3_meanStem_21 rfl (v := 0) (by decide) ?_
      refine z_istore_n G dX3_meanStem_22 rfl (i := 1) rfl (by decide) (zcat_s rfl) (show Z 23 [_, _, _] _ _ _ _ from ?_)
      refine z_iconst G dX3_meanStem_23 rfl (v := 0) (by decide) ?_
      refine z_istore_n G dX3_meanStem_24 rfl (i := 2) rfl (by decide) (zcat_s rfl) (show Z 25 [_, _, _] _ _ _ _ from ?_)
      have L25 : ∀ (n i v : Nat), i + n = np → v = r_sum w i → v ≤ 12 * i → Z 25 [some (.ref (A 0)), some (.int (nI v)), some (.int (nI i))] [] (mdl A (upd S 0 0) F w g0) 0 0 := by
        intro n
        induction n with
        | zero =>
          intro i v hi hv hb
          refine z_iload_n G dX3_meanStem_25 rfl rfl rfl ?_
          refine z_aload_n G dX3_meanStem_26 rfl rfl rfl ?_
          refine mz_get G hA dX3_meanStem_27 rfl (j := 7) fl_X3_16_2 rfl ?_
          refine z_iconst G dX3_meanStem_30 rfl (v := 2) (by decide) ?_
          refine mz_wldN G hA dX3_meanStem_31 rfl (2) rfl (by decide) (np) hp0 ?_
          refine z_icmp_ge G dX3_meanStem_32 rfl (tgt := 50) (by decide) (fun c_32 => ?_) (fun c_32 => ?_)
          · have c_32n := Int32.not_lt.mpr c_32
            have c_32N := (nI_leI (a := np) (b := i) (by omega) (by omega)).mp c_32
            obtain rfl : np = i := by omega
            refine z_iload_n G dX3_meanStem_50 rfl rfl rfl ?_
            refine z_i2d G dX3_meanStem_51 rfl ?_
            refine z_aload_n G dX3_meanStem_52 rfl rfl rfl ?_
            refine mz_get G hA dX3_meanStem_53 rfl (j := 7) fl_X3_16_2 rfl ?_
            refine z_iconst G dX3_meanStem_56 rfl (v := 2) (by decide) ?_
            refine mz_wldN G hA dX3_meanStem_57 rfl (2) rfl (by decide) (np) hp0 ?_
            refine z_i2d G dX3_meanStem_58 rfl ?_
            refine z_ddiv G dX3_meanStem_59 rfl (dm_ok (by omega) (by omega) (by omega)) ?_
            exact z_dret G dX3_meanStem_60 rfl (by rw [hv]; exact hK1 c_11N)
          · exact absurd ((not_congr <| nI_leI (a := np) (b := i) (by omega) (by omega)).mp c_32) (by omega)
        | succ n ih =>
          intro i v hi hv hb
          obtain ⟨q1, q2⟩ := hp2 i (by omega)
          refine z_iload_n G dX3_meanStem_25 rfl rfl rfl ?_
          refine z_aload_n G dX3_meanStem_26 rfl rfl rfl ?_
          refine mz_get G hA dX3_meanStem_27 rfl (j := 7) fl_X3_16_2 rfl ?_
          refine z_iconst G dX3_meanStem_30 rfl (v := 2) (by decide) ?_
          refine mz_wldN G hA dX3_meanStem_31 rfl (2) rfl (by decide) (np) hp0 ?_
          refine z_icmp_ge G dX3_meanStem_32 rfl (tgt := 50) (by decide) (fun c_32 => ?_) (fun c_32 => ?_)
          · exact absurd ((nI_leI (a := np) (b := i) (by omega) (by omega)).mp c_32) (by omega)
          · have c_32n := Int32.not_le.mp c_32
            have c_32N := (not_congr <| nI_leI (a := np) (b := i) (by omega) (by omega)).mp c_32
            refine z_iload_n G dX3_meanStem_35 rfl rfl rfl ?_
            refine z_aload_n G dX3_meanStem_36 rfl rfl rfl ?_
            refine z_iload_n G dX3_meanStem_37 rfl rfl rfl ?_
            refine z_iconst G dX3_meanStem_38 rfl (v := 0) (by decide) ?_
            refine z_V G dX3_meanStem_39 rfl m_X3_of q2751 (C_X3_of h0) (by decide) (As := [_, _]) rfl rfl (Nat.le_of_ble_eq_true rfl) (Nat.zero_le _) (Nat.zero_le _) (mhas hA) (⟨_, _, _, _, _, _, _, hA, rfl, rfl, (by first | assumption | decide | omega), (by first | assumption | decide | omega), ?_⟩)
            rw [q1]
            refine z_iaddN G (v) ((stN w i)) rfl rfl dX3_meanStem_42 rfl ?_
            refine z_istore_n G dX3_meanStem_43 rfl (i := 1) rfl (by decide) (zcat_s rfl) (show Z 44 [_, _, _] _ _ _ _ from ?_)
            refine z_iinc G dX3_meanStem_44 rfl rfl (nI_1 _) (by decide) (zcat_s rfl) (show Z 47 [_, _, _] _ _ _ _ from ?_)
            refine z_goto G dX3_meanStem_47 (tgt := 25) (by decide) ?_
            exact ih (i + 1) _ (by omega) (by rw [hv]; rfl) (by omega)
      exact L25 np 0 0 (by omega) rfl (by omega)
    · have c_11N := (nI_eq (a := np) (b := 0) (by omega) (by omega)).mp c_11
      refine z_aload_n G dX3_meanStem_14 rfl rfl rfl ?_
      refine z_iconst G dX3_meanStem_15 rfl (v := 1) (by decide) ?_
      refine z_V G dX3_meanStem_16 rfl m_X3_fails q2683 (C_X3_fails h0) (by decide) (As := [_]) rfl rfl (Nat.le_of_ble_eq_true rfl) (Nat.zero_le _) (Nat.zero_le _) (mhas hA) (⟨_, _, _, _, _, _, hA, rfl, rfl, ?_⟩)
      refine z_i2d G dX3_meanStem_19 rfl ?_
      exact z_dret G dX3_meanStem_20 rfl (by rw [upd_upd]; exact hK0 c_11N)
def T_X3_drawShare : List Value → Hp → (Res → Hp → Prop) → Prop := fun av g K => ∃ (A : Nat → Nat) (S : Nat → Int32) (F : Nat → Nat → Int32) (w : Nat → Int32) (g0 : Hp) (np : Nat), mok A ∧ g = mdl A S F w g0 ∧ av = [.ref (A 0)] ∧ w 2 = nI np ∧ np ≤ 10 ∧ (np = 0 → K (.inl (some (.float (FP.i2f 0)))) (mdl A (upd S 0 1) F w g0)) ∧ (¬ np = 0 → K (.inl (some (.float (FP.fdiv (FP.i2f (nI (r_wst w np))) (FP.i2f (nI np)))))) (mdl A (upd S 0 0) F w g0))
theorem C_X3_drawShare {l : Launch} {s0 : State} (h0 : St0 l s0) : Ctr l s0 yX3_drawShare (ws_ yX3_drawShare cX3_drawShare 1 (Option.some Jvm.ClassFile.FieldType.float)) 4 0 0 T_X3_drawShare := by
  refine ctr_of h0 (by decide) ?_ ?_
  · rintro av g K ⟨A, S, F, w, g0, np, hA, rfl, rfl, hp0, hp1, hK0, hK1⟩
    exact Nat.le_of_ble_eq_true rfl
  · rintro Z X av g K G ⟨A, S, F, w, g0, np, hA, rfl, rfl, hp0, hp1, hK0, hK1⟩
    show Z 0 [some (.ref (A 0))] [] _ _ _
    have hw := wst_le w np
    refine z_aload_n G dX3_drawShare_0 rfl rfl rfl ?_
    refine z_iconst G dX3_drawShare_1 rfl (v := 0) (by decide) ?_
    refine mz_put G hA dX3_drawShare_2 rfl (j := 0) fl_X3_42_2p rfl rfl (by decide) rfl ?_
    refine z_aload_n G dX3_drawShare_5 rfl rfl rfl ?_
    refine mz_get G hA dX3_drawShare_6 rfl (j := 7) fl_X3_16_2 rfl ?_
    refine z_iconst G dX3_drawShare_9 rfl (v := 2) (by decide) ?_
    refine mz_wldN G hA dX3_drawShare_10 rfl (2) rfl (by decide) (np) hp0 ?_
    refine z_if_ne G dX3_drawShare_11 rfl (tgt := 23) (by decide) (fun c_11 => ?_) (fun c_11 => ?_)
    · have c_11N := (not_congr <| nI_eq (a := np) (b := 0) (by omega) (by omega)).mp c_11
      refine z_aload_n G dX3_drawShare_23 rfl rfl rfl ?_
      refine z_V G dX3_drawShare_24 rfl m_X3_drawing q3149 (C_X3_drawing h0) (by decide) (As := []) rfl rfl (Nat.le_of_ble_eq_true rfl) (Nat.zero_le _) (Nat.zero_le _) (mhas hA) (⟨_, _, _, _, _, _, hA, rfl, rfl, (by first | assumption | decide | omega), (by first | assumption | decide | omega), ?_⟩)
      refine z_i2f G dX3_drawShare_27 rfl ?_
      refine z_aload_n G dX3_drawShare_28 rfl rfl rfl ?_
      refine mz_get G hA dX3_drawShare_29 rfl (j := 7) fl_X3_16_2 rfl ?_
      refine z_iconst G dX3_drawShare_32 rfl (v := 2) (by decide) ?_
      refine mz_wldN G hA dX3_drawShare_33 rfl (2) rfl (by decide) (np) hp0 ?_
      refine z_i2f G dX3_drawShare_34 rfl ?_
      refine z_fdiv G dX3_drawShare_35 rfl (ds_ok (by omega) (by omega) (by omega)) ?_
      exact z_fret G dX3_drawShare_36 rfl (hK1 c_11N)
    · have c_11N := (nI_eq (a := np) (b := 0) (by omega) (by omega)).mp c_11
      refine z_aload_n G dX3_drawShare_14 rfl rfl rfl ?_
      refine z_iconst G dX3_drawShare_15 rfl (v := 1) (by decide) ?_
      refine z_V G dX3_drawShare_16 rfl m_X3_fails q2683 (C_X3_fails h0) (by decide) (As := [_]) rfl rfl (Nat.le_of_ble_eq_true rfl) (Nat.zero_le _) (Nat.zero_le _) (mhas hA) (⟨_, _, _, _, _, _, hA, rfl, rfl, ?_⟩)
      refine z_i2f G dX3_drawShare_19 rfl ?_
      refine z_goto G dX3_drawShare_20 (tgt := 36) (by decide) ?_
      exact z_fret G dX3_drawShare_36 rfl (by rw [upd_upd]; exact hK0 c_11N)
