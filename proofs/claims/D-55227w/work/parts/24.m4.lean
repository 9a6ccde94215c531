/-! THE REFERENCE: mending, smoking, dropping -/
def T_X3_lumpsOf : List Value → Hp → (Res → Hp → Prop) → Prop := fun av g K => ∃ (A : Nat → Nat) (S : Nat → Int32) (F : Nat → Nat → Int32) (w : Nat → Int32) (g0 : Hp) (p : Nat), mok A ∧ g = mdl A S F w g0 ∧ av = [.ref (A 0), .int (nI p)] ∧ p < 10 ∧ K (.inl (some (.int (r_lum w p)))) g
theorem C_X3_lumpsOf {l : Launch} {s0 : State} (h0 : St0 l s0) : Ctr l s0 yX3_lumpsOf (ws_ yX3_lumpsOf cX3_lumpsOf 2 (Option.some Jvm.ClassFile.FieldType.int)) 2 0 0 T_X3_lumpsOf := by
  refine ctr_of h0 (by decide) ?_ ?_
  · rintro av g K ⟨A, S, F, w, g0, p, hA, rfl, rfl, hp0, hK⟩
    exact Nat.le_of_ble_eq_true rfl
  · rintro Z X av g K G ⟨A, S, F, w, g0, p, hA, rfl, rfl, hp0, hK⟩
    show Z 0 [some (.ref (A 0)), some (.int (nI p))] [] _ _ _
    refine z_aload_n G dX3_lumpsOf_0 rfl rfl rfl ?_
    refine z_iload_n G dX3_lumpsOf_1 rfl rfl rfl ?_
    refine z_iconst G dX3_lumpsOf_2 rfl (v := 1) (by decide) ?_
    refine z_V G dX3_lumpsOf_3 rfl m_X3_of q2751 (C_X3_of h0) (by decide) (As := [_, _]) rfl rfl (Nat.le_of_ble_eq_true rfl) (Nat.zero_le _) (Nat.zero_le _) (mhas hA) (⟨_, _, _, _, _, _, _, hA, rfl, rfl, (by first | assumption | decide | omega), (by first | assumption | decide | omega), ?_⟩)
    refine z_iconst G dX3_lumpsOf_6 rfl (v := 2) (by decide) ?_
    refine z_iadd G dX3_lumpsOf_7 rfl ?_
    refine z_iconst G dX3_lumpsOf_8 rfl (v := 3) (by decide) ?_
    refine z_idiv G dX3_lumpsOf_9 rfl (by decide) ?_
    refine z_aload_n G dX3_lumpsOf_10 rfl rfl rfl ?_
    refine z_iload_n G dX3_lumpsOf_11 rfl rfl rfl ?_
    refine z_iconst G dX3_lumpsOf_12 rfl (v := 0) (by decide) ?_
    refine z_V G dX3_lumpsOf_13 rfl m_X3_of q2751 (C_X3_of h0) (by decide) (As := [_, _]) rfl rfl (Nat.le_of_ble_eq_true rfl) (Nat.zero_le _) (Nat.zero_le _) (mhas hA) (⟨_, _, _, _, _, _, _, hA, rfl, rfl, (by first | assumption | decide | omega), (by first | assumption | decide | omega), ?_⟩)
    refine z_iconst G dX3_lumpsOf_16 rfl (v := 3) (by decide) ?_
    refine z_icmp_ge G dX3_lumpsOf_17 rfl (tgt := 24) (by decide) (fun c_17 => ?_) (fun c_17 => ?_)
    · have c_17n := Int32.not_lt.mpr c_17
      refine z_iconst G dX3_lumpsOf_24 rfl (v := 0) (by decide) ?_
      refine z_iadd G dX3_lumpsOf_25 rfl ?_
      exact z_iret G dX3_lumpsOf_26 rfl rfl (by simpa [r_lum, c_17, c_17n] using hK)
    · have c_17n := Int32.not_le.mp c_17
      refine z_iconst G dX3_lumpsOf_20 rfl (v := 1) (by decide) ?_
      refine z_goto G dX3_lumpsOf_21 (tgt := 25) (by decide) ?_
      refine z_iadd G dX3_lumpsOf_25 rfl ?_
      exact z_iret G dX3_lumpsOf_26 rfl rfl (by simpa [r_lum, c_17, c_17n] using hK)
def T_X3_pieceOf : List Value → Hp → (Res → Hp → Prop) → Prop := fun av g K => ∃ (A : Nat → Nat) (S : Nat → Int32) (F : Nat → Nat → Int32) (w : Nat → Int32) (g0 : Hp) (p st : Nat), mok A ∧ g = mdl A S F w g0 ∧ av = [.ref (A 0), .int (nI p)] ∧ p < 10 ∧ pw w p 0 = nI st ∧ st ≤ 40 ∧ K (.inl (some (.int (r_pof w st)))) g
theorem C_X3_pieceOf {l : Launch} {s0 : State} (h0 : St0 l s0) : Ctr l s0 yX3_pieceOf (ws_ yX3_pieceOf cX3_pieceOf 3 (Option.some Jvm.ClassFile.FieldType.int)) 2 0 0 T_X3_pieceOf := by
  refine ctr_of h0 (by decide) ?_ ?_
  · rintro av g K ⟨A, S, F, w, g0, p, st, hA, rfl, rfl, hp0, hp1, hp2, hK⟩
    exact Nat.le_of_ble_eq_true rfl
  · rintro Z X av g K G ⟨A, S, F, w, g0, p, st, hA, rfl, rfl, hp0, hp1, hp2, hK⟩
    show Z 0 [some (.ref (A 0)), some (.int (nI p)), none] [] _ _ _
    refine z_aload_n G dX3_pieceOf_0 rfl rfl rfl ?_
    refine z_iload_n G dX3_pieceOf_1 rfl rfl rfl ?_
    refine z_iconst G dX3_pieceOf_2 rfl (v := 0) (by decide) ?_
    refine z_V G dX3_pieceOf_3 rfl m_X3_of q2751 (C_X3_of h0) (by decide) (As := [_, _]) rfl rfl (Nat.le_of_ble_eq_true rfl) (Nat.zero_le _) (Nat.zero_le _) (mhas hA) (⟨_, _, _, _, _, _, _, hA, rfl, rfl, (by first | assumption | decide | omega), (by first | assumption | decide | omega), ?_⟩)
    rw [hp1]
    refine z_iconst G dX3_pieceOf_6 rfl (v := 3) (by decide) ?_
    refine z_icmp_lt G dX3_pieceOf_7 rfl (tgt := 12) (by decide) (fun c_7 => ?_) (fun c_7 => ?_)
    · have c_7n := Int32.not_le.mpr c_7
      have c_7N := (nI_ltI (a := st) (b := 3) (by omega) (by omega)).mp c_7
      refine z_iconst G dX3_pieceOf_12 rfl (v := 3) (by decide) ?_
      refine z_aload_n G dX3_pieceOf_13 rfl rfl rfl ?_
      refine z_iload_n G dX3_pieceOf_14 rfl rfl rfl ?_
      refine z_iconst G dX3_pieceOf_15 rfl (v := 0) (by decide) ?_
      refine z_V G dX3_pieceOf_16 rfl m_X3_of q2751 (C_X3_of h0) (by decide) (As := [_, _]) rfl rfl (Nat.le_of_ble_eq_true rfl) (Nat.zero_le _) (Nat.zero_le _) (mhas hA) (⟨_, _, _, _, _, _, _, hA, rfl, rfl, (by first | assumption | decide | omega), (by first | assumption | decide | omega), ?_⟩)
      rw [hp1]
      refine z_isubN G (3) (st) rfl rfl (by omega) dX3_pieceOf_19 rfl ?_
      refine z_istore_n G dX3_pieceOf_20 rfl (i := 2) rfl (by decide) (zcat_s rfl) (show Z 21 [_, _, _] _ _ _ _ from ?_)
      have L21 : ∀ (n i : Nat), i + n = 7 → 1 ≤ i → K (.inl (some (.int (r_sho w n i)))) (mdl A S F w g0) → Z 21 [some (.ref (A 0)), some (.int (nI p)), some (.int (nI i))] [] (mdl A S F w g0) 0 0 := by
        intro n
        induction n with
        | zero =>
          intro i hi h1 hK
          refine z_iload_n G dX3_pieceOf_21 rfl rfl rfl ?_
          refine z_bipush G dX3_pieceOf_22 rfl (v := 6) (by decide) ?_
          refine z_icmp_gt G dX3_pieceOf_24 rfl (tgt := 47) (by decide) (fun c_24 => ?_) (fun c_24 => ?_)
          · have c_24n := Int32.not_le.mpr c_24
            have c_24N := (nI_ltI (a := 6) (b := i) (by omega) (by omega)).mp c_24
            refine z_iconst G dX3_pieceOf_47 rfl (v := (-1)) (by decide) ?_
            exact z_iret G dX3_pieceOf_48 rfl rfl (hK)
          · exact absurd ((not_congr <| nI_ltI (a := 6) (b := i) (by omega) (by omega)).mp c_24) (by omega)
        | succ n ih =>
          intro i hi h1 hK
          refine z_iload_n G dX3_pieceOf_21 rfl rfl rfl ?_
          refine z_bipush G dX3_pieceOf_22 rfl (v := 6) (by decide) ?_
          refine z_icmp_gt G dX3_pieceOf_24 rfl (tgt := 47) (by decide) (fun c_24 => ?_) (fun c_24 => ?_)
          · exact absurd ((nI_ltI (a := 6) (b := i) (by omega) (by omega)).mp c_24) (by omega)
          · have c_24n := Int32.not_lt.mp c_24
            have c_24N := (not_congr <| nI_ltI (a := 6) (b := i) (by omega) (by omega)).mp c_24
            refine z_aload_n G dX3_pieceOf_27 rfl rfl rfl ?_
            refine mz_get G hA dX3_pieceOf_28 rfl (j := 7) fl_X3_16_2 rfl ?_
            refine z_bipush G dX3_pieceOf_31 rfl (v := 42) (by decide) ?_
            refine z_iload_n G dX3_pieceOf_33 rfl rfl rfl ?_
            refine z_iaddN G (42) (i) rfl rfl dX3_pieceOf_34 rfl ?_
            refine mz_wld G hA dX3_pieceOf_35 rfl (42 + i) rfl (by omega) ?_
            refine z_if_le G dX3_pieceOf_36 rfl (tgt := 41) (by decide) (fun c_36 => ?_) (fun c_36 => ?_)
            · have c_36n := Int32.not_lt.mpr c_36
              refine z_iinc G dX3_pieceOf_41 rfl rfl (nI_1 _) (by decide) (zcat_s rfl) (show Z 44 [_, _, _] _ _ _ _ from ?_)
              refine z_goto G dX3_pieceOf_44 (tgt := 21) (by decide) ?_
              exact ih (i + 1) (by omega) (by omega) (by simpa [r_sho, c_7, c_7n, c_7N, c_24, c_24n, c_24N, c_36, c_36n] using hK)
            · have c_36n := Int32.not_le.mp c_36
              refine z_iload_n G dX3_pieceOf_39 rfl rfl rfl ?_
              exact z_iret G dX3_pieceOf_40 rfl rfl (by simpa [r_sho, c_7, c_7n, c_7N, c_24, c_24n, c_24N, c_36, c_36n] using hK)
      exact L21 (4 + st) (3 - st) (by omega) (by omega) (by rw [r_pof, if_neg (by omega)] at hK; exact hK)
    · have c_7n := Int32.not_lt.mp c_7
      have c_7N := (not_congr <| nI_ltI (a := st) (b := 3) (by omega) (by omega)).mp c_7
      refine z_iconst G dX3_pieceOf_10 rfl (v := 0) (by decide) ?_
      exact z_iret G dX3_pieceOf_11 rfl rfl (by rw [r_pof, if_pos (by omega)] at hK; exact hK)
def T_X3_notMended : List Value → Hp → (Res → Hp → Prop) → Prop := fun av g K => ∃ (A : Nat → Nat) (S : Nat → Int32) (F : Nat → Nat → Int32) (w : Nat → Int32) (g0 : Hp) (p st : Nat), mok A ∧ g = mdl A S F w g0 ∧ av = [.ref (A 0), .int (nI p)] ∧ p < 10 ∧ pw w p 0 = nI st ∧ st ≤ 40 ∧ K (.inl (some (.int (nrv (o_mdd w p st))))) (mdl A (nS S (o_mdd w p st)) F w g0)
theorem C_X3_notMended {l : Launch} {s0 : State} (h0 : St0 l s0) : Ctr l s0 yX3_notMended (ws_ yX3_notMended cX3_notMended 3 (Option.some Jvm.ClassFile.FieldType.int)) 3 0 0 T_X3_notMended := by
  refine ctr_of h0 (by decide) ?_ ?_
  · rintro av g K ⟨A, S, F, w, g0, p, st, hA, rfl, rfl, hp0, hp1, hp2, hK⟩
    exact Nat.le_of_ble_eq_true rfl
  · rintro Z X av g K G ⟨A, S, F, w, g0, p, st, hA, rfl, rfl, hp0, hp1, hp2, hK⟩
    show Z 0 [some (.ref (A 0)), some (.int (nI p)), none] [] _ _ _
    refine z_aload_n G dX3_notMended_0 rfl rfl rfl ?_
    refine mz_get G hA dX3_notMended_1 rfl (j := 7) fl_X3_16_2 rfl ?_
    refine z_iconst G dX3_notMended_4 rfl (v := 4) (by decide) ?_
    refine mz_wld G hA dX3_notMended_5 rfl (4) rfl (by decide) ?_
    refine z_aload_n G dX3_notMended_6 rfl rfl rfl ?_
    refine z_iload_n G dX3_notMended_7 rfl rfl rfl ?_
    refine z_V G dX3_notMended_8 rfl m_X3_lumpsOf q2747 (C_X3_lumpsOf h0) (by decide) (As := [_]) rfl rfl (Nat.le_of_ble_eq_true rfl) (Nat.zero_le _) (Nat.zero_le _) (mhas hA) (⟨_, _, _, _, _, _, hA, rfl, rfl, (by first | assumption | decide | omega), ?_⟩)
    refine z_icmp_ge G dX3_notMended_11 rfl (tgt := 33) (by decide) (fun c_11 => ?_) (fun c_11 => ?_)
    · have c_11n := Int32.not_lt.mpr c_11
      refine z_aload_n G dX3_notMended_33 rfl rfl rfl ?_
      refine z_iload_n G dX3_notMended_34 rfl rfl rfl ?_
      refine z_V G dX3_notMended_35 rfl m_X3_pieceOf q2823 (C_X3_pieceOf h0) (by decide) (As := [_]) rfl rfl (Nat.le_of_ble_eq_true rfl) (Nat.zero_le _) (Nat.zero_le _) (mhas hA) (⟨_, _, _, _, _, _, _, hA, rfl, rfl, (by first | assumption | decide | omega), (by first | assumption | decide | omega), (by first | assumption | decide | omega), ?_⟩)
      refine z_if_lt G dX3_notMended_38 rfl (tgt := 43) (by decide) (fun c_38 => ?_) (fun c_38 => ?_)
      · have c_38n := Int32.not_le.mpr c_38
        refine z_aload_n G dX3_notMended_43 rfl rfl rfl ?_
        refine z_bipush G dX3_notMended_44 rfl (v := 10) (by decide) ?_
        refine z_iconst G dX3_notMended_46 rfl (v := 3) (by decide) ?_
        refine z_aload_n G dX3_notMended_47 rfl rfl rfl ?_
        refine z_iload_n G dX3_notMended_48 rfl rfl rfl ?_
        refine z_iconst G dX3_notMended_49 rfl (v := 0) (by decide) ?_
        refine z_V G dX3_notMended_50 rfl m_X3_of q2751 (C_X3_of h0) (by decide) (As := [_, _]) rfl rfl (Nat.le_of_ble_eq_true rfl) (Nat.zero_le _) (Nat.zero_le _) (mhas hA) (⟨_, _, _, _, _, _, _, hA, rfl, rfl, (by first | assumption | decide | omega), (by first | assumption | decide | omega), ?_⟩)
        rw [hp1]
        refine z_isub G dX3_notMended_53 rfl ?_
        refine z_V G dX3_notMended_54 rfl m_X3_isNot q2671 (C_X3_isNot h0) (by decide) (As := [_, _]) rfl rfl (Nat.le_of_ble_eq_true rfl) (Nat.zero_le _) (Nat.zero_le _) (mhas hA) (⟨_, _, _, _, _, _, _, hA, rfl, rfl, ?_⟩)
        refine z_istore_n G dX3_notMended_57 rfl (i := 2) rfl (by decide) (zcat_s rfl) (show Z 58 [_, _, _] _ _ _ _ from ?_)
        refine z_aload_n G dX3_notMended_58 rfl rfl rfl ?_
        refine z_aload_n G dX3_notMended_59 rfl rfl rfl ?_
        refine z_V G dX3_notMended_60 rfl m_X3_piecesNow q2775 (C_X3_piecesNow h0) (by decide) (As := []) rfl rfl (Nat.le_of_ble_eq_true rfl) (Nat.zero_le _) (Nat.zero_le _) (mhas hA) (⟨_, _, _, _, _, hA, rfl, rfl, ?_⟩)
        refine z_if_le G dX3_notMended_63 rfl (tgt := 71) (by decide) (fun c_63 => ?_) (fun c_63 => ?_)
        · have c_63n := Int32.not_lt.mpr c_63
          refine z_iconst G dX3_notMended_71 rfl (v := 0) (by decide) ?_
          refine mz_put G hA dX3_notMended_72 rfl (j := 5) fl_X3_51_2p rfl rfl (by decide) rfl ?_
          refine z_aload_n G dX3_notMended_75 rfl rfl rfl ?_
          refine z_aload_n G dX3_notMended_76 rfl rfl rfl ?_
          refine z_V G dX3_notMended_77 rfl m_X3_longestNow q2827 (C_X3_longestNow h0) (by decide) (As := []) rfl rfl (Nat.le_of_ble_eq_true rfl) (Nat.zero_le _) (Nat.zero_le _) (mhas hA) (⟨_, _, _, _, _, hA, rfl, rfl, ?_⟩)
          refine mz_put G hA dX3_notMended_80 rfl (j := 6) fl_X3_54_2p rfl rfl (by decide) rfl ?_
          refine z_iload_n G dX3_notMended_83 rfl rfl rfl ?_
          exact z_iret G dX3_notMended_84 rfl rfl (by rw [nS_2]; simpa [o_mdd, c_11, c_11n, c_38, c_38n, c_63, c_63n, nrv, nS] using hK)
        · have c_63n := Int32.not_le.mp c_63
          refine z_bipush G dX3_notMended_66 rfl (v := 11) (by decide) ?_
          refine z_goto G dX3_notMended_68 (tgt := 72) (by decide) ?_
          refine mz_put G hA dX3_notMended_72 rfl (j := 5) fl_X3_51_2p rfl rfl (by decide) rfl ?_
          refine z_aload_n G dX3_notMended_75 rfl rfl rfl ?_
          refine z_aload_n G dX3_notMended_76 rfl rfl rfl ?_
          refine z_V G dX3_notMended_77 rfl m_X3_longestNow q2827 (C_X3_longestNow h0) (by decide) (As := []) rfl rfl (Nat.le_of_ble_eq_true rfl) (Nat.zero_le _) (Nat.zero_le _) (mhas hA) (⟨_, _, _, _, _, hA, rfl, rfl, ?_⟩)
          refine mz_put G hA dX3_notMended_80 rfl (j := 6) fl_X3_54_2p rfl rfl (by decide) rfl ?_
          refine z_iload_n G dX3_notMended_83 rfl rfl rfl ?_
          exact z_iret G dX3_notMended_84 rfl rfl (by rw [nS_2]; simpa [o_mdd, c_11, c_11n, c_38, c_38n, c_63, c_63n, nrv, nS] using hK)
      · have c_38n := Int32.not_lt.mp c_38
        refine z_iconst G dX3_notMended_41 rfl (v := 0) (by decide) ?_
        exact z_iret G dX3_notMended_42 rfl rfl (by simpa [o_mdd, c_11, c_11n, c_38, c_38n, nrv, nS] using hK)
    · have c_11n := Int32.not_le.mp c_11
      refine z_aload_n G dX3_notMended_14 rfl rfl rfl ?_
      refine z_bipush G dX3_notMended_15 rfl (v := 9) (by decide) ?_
      refine z_aload_n G dX3_notMended_17 rfl rfl rfl ?_
      refine z_iload_n G dX3_notMended_18 rfl rfl rfl ?_
      refine z_V G dX3_notMended_19 rfl m_X3_lumpsOf q2747 (C_X3_lumpsOf h0) (by decide) (As := [_]) rfl rfl (Nat.le_of_ble_eq_true rfl) (Nat.zero_le _) (Nat.zero_le _) (mhas hA) (⟨_, _, _, _, _, _, hA, rfl, rfl, (by first | assumption | decide | omega), ?_⟩)
      refine z_aload_n G dX3_notMended_22 rfl rfl rfl ?_
      refine mz_get G hA dX3_notMended_23 rfl (j := 7) fl_X3_16_2 rfl ?_
      refine z_iconst G dX3_notMended_26 rfl (v := 4) (by decide) ?_
      refine mz_wld G hA dX3_notMended_27 rfl (4) rfl (by decide) ?_
      refine z_isub G dX3_notMended_28 rfl ?_
      refine z_V G dX3_notMended_29 rfl m_X3_isNot q2671 (C_X3_isNot h0) (by decide) (As := [_, _]) rfl rfl (Nat.le_of_ble_eq_true rfl) (Nat.zero_le _) (Nat.zero_le _) (mhas hA) (⟨_, _, _, _, _, _, _, hA, rfl, rfl, ?_⟩)
      exact z_iret G dX3_notMended_32 rfl rfl (by simpa [o_mdd, c_11, c_11n, nrv, nS] using hK)
def T_X3_notMend : List Value → Hp → (Res → Hp → Prop) → Prop := fun av g K => ∃ (A : Nat → Nat) (S : Nat → Int32) (F : Nat → Nat → Int32) (w : Nat → Int32) (g0 : Hp) (p st h : Nat), mok A ∧ g = mdl A S F w g0 ∧ av = [.ref (A 0)] ∧ w 0 = nI h ∧ h < 2 ^ 30 ∧ r_has w h false 0 ∧ (¬ w 3 = 0 → w 12 = nI p ∧ p < 10 ∧ pw w p 0 = nI st ∧ st ≤ 40) ∧ K (.inl (some (.int (nrv (o_mend w p st h))))) (mdl A (nS S (o_mend w p st h)) F w g0)
theorem C_X3_notMend {l : Launch} {s0 : State} (h0 : St0 l s0) : Ctr l s0 yX3_notMend (ws_ yX3_notMend cX3_notMend 1 (Option.some Jvm.ClassFile.FieldType.int)) 4 0 0 T_X3_notMend := by
  refine ctr_of h0 (by decide) ?_ ?_
  · rintro av g K ⟨A, S, F, w, g0, p, st, h, hA, rfl, rfl, hp0, hp1, hp2, hp3, hK⟩
    exact Nat.le_of_ble_eq_true rfl
  · rintro Z X av g K G ⟨A, S, F, w, g0, p, st, h, hA, rfl, rfl, hp0, hp1, hp2, hp3, hK⟩
    show Z 0 [some (.ref (A 0))] [] _ _ _
    refine z_aload_n G dX3_notMend_0 rfl rfl rfl ?_
    refine mz_get G hA dX3_notMend_1 rfl (j := 7) fl_X3_16_2 rfl ?_
    refine z_iconst G dX3_notMend_4 rfl (v := 3) (by decide) ?_
    refine mz_wld G hA dX3_notMend_5 rfl (3) rfl (by decide) ?_
    refine z_if_ne G dX3_notMend_6 rfl (tgt := 17) (by decide) (fun c_6 => ?_) (fun c_6 => ?_)
    · obtain ⟨q1, q2, q3, q4⟩ := hp3 c_6
      refine z_aload_n G dX3_notMend_17 rfl rfl rfl ?_
      refine z_aload_n G dX3_notMend_18 rfl rfl rfl ?_
      refine z_V G dX3_notMend_19 rfl m_X3_hourOfDay q2787 (C_X3_hourOfDay h0) (by decide) (As := []) rfl rfl (Nat.le_of_ble_eq_true rfl) (Nat.zero_le _) (Nat.zero_le _) (mhas hA) (⟨_, _, _, _, _, _, hA, rfl, rfl, (by first | assumption | decide | omega), (by first | assumption | decide | omega), ?_⟩)
      refine z_V G dX3_notMend_22 rfl m_X3_isDrummed q2791 (C_X3_isDrummed h0) (by decide) (As := [_]) rfl rfl (Nat.le_of_ble_eq_true rfl) (Nat.zero_le _) (Nat.zero_le _) (mhas hA) (⟨_, _, _, _, _, _, hA, rfl, rfl, ?_⟩)
      refine z_if_eq G dX3_notMend_25 rfl (tgt := 40) (by decide) (fun c_25 => ?_) (fun c_25 => ?_)
      · have c_25b := bI_f c_25
        refine z_aload_n G dX3_notMend_40 rfl rfl rfl ?_
        refine z_aload_n G dX3_notMend_41 rfl rfl rfl ?_
        refine mz_get G hA dX3_notMend_42 rfl (j := 7) fl_X3_16_2 rfl ?_
        refine z_bipush G dX3_notMend_45 rfl (v := 12) (by decide) ?_
        refine mz_wldN G hA dX3_notMend_47 rfl (12) rfl (by decide) (p) q1 ?_
        refine z_V G dX3_notMend_48 rfl m_X3_notMended q2819 (C_X3_notMended h0) (by decide) (As := [_]) rfl rfl (Nat.le_of_ble_eq_true rfl) (Nat.zero_le _) (Nat.zero_le _) (mhas hA) (⟨_, _, _, _, _, _, _, hA, rfl, rfl, (by first | assumption | decide | omega), (by first | assumption | decide | omega), (by first | assumption | decide | omega), ?_⟩)
        exact z_iret G dX3_notMend_51 rfl rfl (by simpa [o_mend, c_6, c_25, c_25b, nrv, nS] using hK)
      · have c_25b := bI_t c_25
        refine z_aload_n G dX3_notMend_28 rfl rfl rfl ?_
        refine z_bipush G dX3_notMend_29 rfl (v := 8) (by decide) ?_
        refine z_aload_n G dX3_notMend_31 rfl rfl rfl ?_
        refine z_iconst G dX3_notMend_32 rfl (v := 0) (by decide) ?_
        refine z_V G dX3_notMend_33 rfl m_X3_hoursUntil q2799 (C_X3_hoursUntil h0) (by decide) (As := [_]) rfl rfl (Nat.le_of_ble_eq_true rfl) (Nat.zero_le _) (Nat.zero_le _) (mhas hA) (⟨_, _, _, _, _, false, h, hA, rfl, rfl, hp0, hp1, hp2, ?_⟩)
        refine z_V G dX3_notMend_36 rfl m_X3_isNot q2671 (C_X3_isNot h0) (by decide) (As := [_, _]) rfl rfl (Nat.le_of_ble_eq_true rfl) (Nat.zero_le _) (Nat.zero_le _) (mhas hA) (⟨_, _, _, _, _, _, _, hA, rfl, rfl, ?_⟩)
        exact z_iret G dX3_notMend_39 rfl rfl (by simpa [o_mend, c_6, c_25, c_25b, nrv, nS] using hK)
    · refine z_aload_n G dX3_notMend_9 rfl rfl rfl ?_
      refine z_bipush G dX3_notMend_10 rfl (v := 7) (by decide) ?_
      refine z_iconst G dX3_notMend_12 rfl (v := 0) (by decide) ?_
      refine z_V G dX3_notMend_13 rfl m_X3_isNot q2671 (C_X3_isNot h0) (by decide) (As := [_, _]) rfl rfl (Nat.le_of_ble_eq_true rfl) (Nat.zero_le _) (Nat.zero_le _) (mhas hA) (⟨_, _, _, _, _, _, _, hA, rfl, rfl, ?_⟩)
      exact z_iret G dX3_notMend_16 rfl rfl (by simpa [o_mend, c_6, nrv, nS] using hK)
def T_X3_mends : List Value → Hp → (Res → Hp → Prop) → Prop := fun av g K => ∃ (A : Nat → Nat) (S : Nat → Int32) (F : Nat → Nat → Int32) (w : Nat → Int32) (g0 : Hp) (p st pc nb lm nl : Nat), mok A ∧ g = mdl A S F w g0 ∧ av = [.ref (A 0)] ∧ w 12 = nI p ∧ p < 10 ∧ pw w p 0 = nI st ∧ st ≤ 40 ∧ r_pof w st = nI pc ∧ pc ≤ 6 ∧ r_lum w p = nI lm ∧ lm ≤ nl ∧ w 4 = nI nl ∧ nl ≤ 20 ∧ w 3 = nI nb ∧ 0 < nb ∧ nb ≤ 10 ∧ K (.inl (some (.int (nI p)))) (mdl A S F (r_men w p pc nb lm nl) g0)
theorem C_X3_mends {l : Launch} {s0 : State} (h0 : St0 l s0) : Ctr l s0 yX3_mends (ws_ yX3_mends cX3_mends 4 (Option.some Jvm.ClassFile.FieldType.int)) 3 0 0 T_X3_mends := by
  refine ctr_of h0 (by decide) ?_ ?_
  · rintro av g K ⟨A, S, F, w, g0, p, st, pc, nb, lm, nl, hA, rfl, rfl, hp0, hp1, hp2, hp3, hp4, hp5, hp6, hp7, hp8, hp9, hp10, hp11, hp12, hK⟩
    exact Nat.le_of_ble_eq_true rfl
  · rintro Z X av g K G ⟨A, S, F, w, g0, p, st, pc, nb, lm, nl, hA, rfl, rfl, hp0, hp1, hp2, hp3, hp4, hp5, hp6, hp7, hp8, hp9, hp10, hp11, hp12, hK⟩
    show Z 0 [some (.ref (A 0)), none, none, none] [] _ _ _
    refine z_aload_n G dX3_mends_0 rfl rfl rfl ?_
    refine mz_get G hA dX3_mends_1 rfl (j := 7) fl_X3_16_2 rfl ?_
    refine z_bipush G dX3_mends_4 rfl (v := 12) (by decide) ?_
    refine mz_wldN G hA dX3_mends_6 rfl (12) rfl (by decide) (p) hp0 ?_
    refine z_istore_n G dX3_mends_7 rfl (i := 1) rfl (by decide) (zcat_s rfl) (show Z 8 [_, _, _, _] _ _ _ _ from ?_)
    refine z_aload_n G dX3_mends_8 rfl rfl rfl ?_
    refine z_iload_n G dX3_mends_9 rfl rfl rfl ?_
    refine z_V G dX3_mends_10 rfl m_X3_pieceOf q2823 (C_X3_pieceOf h0) (by decide) (As := [_]) rfl rfl (Nat.le_of_ble_eq_true rfl) (Nat.zero_le _) (Nat.zero_le _) (mhas hA) (⟨_, _, _, _, _, _, _, hA, rfl, rfl, (by first | assumption | decide | omega), (by first | assumption | decide | omega), (by first | assumption | decide | omega), ?_⟩)
    rw [hp4]
    refine z_istore_n G dX3_mends_13 rfl (i := 2) rfl (by decide) (zcat_s rfl) (show Z 14 [_, _, _, _] _ _ _ _ from ?_)
    refine z_aload_n G dX3_mends_14 rfl rfl rfl ?_
    refine z_iload_n G dX3_mends_15 rfl rfl rfl ?_
    refine z_V G dX3_mends_16 rfl m_X3_lumpsOf q2747 (C_X3_lumpsOf h0) (by decide) (As := [_]) rfl rfl (Nat.le_of_ble_eq_true rfl) (Nat.zero_le _) (Nat.zero_le _) (mhas hA) (⟨_, _, _, _, _, _, hA, rfl, rfl, (by first | assumption | decide | omega), ?_⟩)
    rw [hp6]
    refine z_istore_n G dX3_mends_19 rfl (i := 3) rfl (by decide) (zcat_s rfl) (show Z 20 [_, _, _, _] _ _ _ _ from ?_)
    have L20 : ∀ (n i : Nat) (w' : Nat → Int32), i + n = lm → w' = r_use w nl i → Z 20 [some (.ref (A 0)), some (.int (nI p)), some (.int (nI pc)), some (.int (nI n))] [] (mdl A S F w' g0) 0 0 := by
      intro n
      induction n with
      | zero =>
        intro i w' hi hw
        obtain rfl : i = lm := by omega
        refine z_iload_n G dX3_mends_20 rfl rfl rfl ?_
        refine z_if_le G dX3_mends_21 rfl (tgt := 46) (by decide) (fun c_21 => ?_) (fun c_21 => ?_)
        · have c_21n := Int32.not_lt.mpr c_21
          have c_21N := (nI_leI (a := 0) (b := 0) (by omega) (by omega)).mp c_21
          refine z_iload_n G dX3_mends_46 rfl rfl rfl ?_
          refine z_if_le G dX3_mends_47 rfl (tgt := 63) (by decide) (fun c_47 => ?_) (fun c_47 => ?_)
          · have c_47n := Int32.not_lt.mpr c_47
            have c_47N := (nI_leI (a := pc) (b := 0) (by omega) (by omega)).mp c_47
            obtain rfl : pc = 0 := by omega
            refine z_aload_n G dX3_mends_63 rfl rfl rfl ?_
            refine z_iload_n G dX3_mends_64 rfl rfl rfl ?_
            refine z_iconst G dX3_mends_65 rfl (v := 0) (by decide) ?_
            refine z_aload_n G dX3_mends_66 rfl rfl rfl ?_
            refine z_iload_n G dX3_mends_67 rfl rfl rfl ?_
            refine z_iconst G dX3_mends_68 rfl (v := 0) (by decide) ?_
            refine z_V G dX3_mends_69 rfl m_X3_of q2751 (C_X3_of h0) (by decide) (As := [_, _]) rfl rfl (Nat.le_of_ble_eq_true rfl) (Nat.zero_le _) (Nat.zero_le _) (mhas hA) (⟨_, _, _, _, _, _, _, hA, rfl, rfl, (by first | assumption | decide | omega), (by first | assumption | decide | omega), ?_⟩)
            refine z_iload_n G dX3_mends_72 rfl rfl rfl ?_
            refine z_iadd G dX3_mends_73 rfl ?_
            refine z_V G dX3_mends_74 rfl m_X3_sets q2699 (C_X3_sets h0) (by decide) (As := [_, _, _]) rfl rfl (Nat.le_of_ble_eq_true rfl) (Nat.zero_le _) (Nat.zero_le _) (mhas hA) (⟨_, _, _, _, _, _, _, _, hA, rfl, rfl, (by first | assumption | decide | omega), (by first | assumption | decide | omega), ?_⟩)
            refine z_aload_n G dX3_mends_77 rfl rfl rfl ?_
            refine z_iload_n G dX3_mends_78 rfl rfl rfl ?_
            refine z_iconst G dX3_mends_79 rfl (v := 1) (by decide) ?_
            refine z_iconst G dX3_mends_80 rfl (v := 0) (by decide) ?_
            refine z_V G dX3_mends_81 rfl m_X3_sets q2699 (C_X3_sets h0) (by decide) (As := [_, _, _]) rfl rfl (Nat.le_of_ble_eq_true rfl) (Nat.zero_le _) (Nat.zero_le _) (mhas hA) (⟨_, _, _, _, _, _, _, _, hA, rfl, rfl, (by first | assumption | decide | omega), (by first | assumption | decide | omega), ?_⟩)
            refine z_aload_n G dX3_mends_84 rfl rfl rfl ?_
            refine z_iload_n G dX3_mends_85 rfl rfl rfl ?_
            refine z_iconst G dX3_mends_86 rfl (v := 2) (by decide) ?_
            refine z_iconst G dX3_mends_87 rfl (v := 0) (by decide) ?_
            refine z_V G dX3_mends_88 rfl m_X3_sets q2699 (C_X3_sets h0) (by decide) (As := [_, _, _]) rfl rfl (Nat.le_of_ble_eq_true rfl) (Nat.zero_le _) (Nat.zero_le _) (mhas hA) (⟨_, _, _, _, _, _, _, _, hA, rfl, rfl, (by first | assumption | decide | omega), (by first | assumption | decide | omega), ?_⟩)
            refine z_aload_n G dX3_mends_91 rfl rfl rfl ?_
            refine z_iload_n G dX3_mends_92 rfl rfl rfl ?_
            refine z_iconst G dX3_mends_93 rfl (v := 3) (by decide) ?_
            refine z_aload_n G dX3_mends_94 rfl rfl rfl ?_
            refine z_iload_n G dX3_mends_95 rfl rfl rfl ?_
            refine z_iconst G dX3_mends_96 rfl (v := 3) (by decide) ?_
            refine z_V G dX3_mends_97 rfl m_X3_of q2751 (C_X3_of h0) (by decide) (As := [_, _]) rfl rfl (Nat.le_of_ble_eq_true rfl) (Nat.zero_le _) (Nat.zero_le _) (mhas hA) (⟨_, _, _, _, _, _, _, hA, rfl, rfl, (by first | assumption | decide | omega), (by first | assumption | decide | omega), ?_⟩)
            refine z_iconst G dX3_mends_100 rfl (v := 1) (by decide) ?_
            refine z_iadd G dX3_mends_101 rfl ?_
            refine z_V G dX3_mends_102 rfl m_X3_sets q2699 (C_X3_sets h0) (by decide) (As := [_, _, _]) rfl rfl (Nat.le_of_ble_eq_true rfl) (Nat.zero_le _) (Nat.zero_le _) (mhas hA) (⟨_, _, _, _, _, _, _, _, hA, rfl, rfl, (by first | assumption | decide | omega), (by first | assumption | decide | omega), ?_⟩)
            refine z_aload_n G dX3_mends_105 rfl rfl rfl ?_
            refine mz_get G hA dX3_mends_106 rfl (j := 7) fl_X3_16_2 rfl ?_
            refine z_bipush G dX3_mends_109 rfl (v := 9) (by decide) ?_
            refine z_dup2_11 G dX3_mends_111 rfl rfl rfl ?_
            refine mz_wld G hA dX3_mends_112 rfl (9) rfl (by decide) ?_
            refine z_iconst G dX3_mends_113 rfl (v := 1) (by decide) ?_
            refine z_iadd G dX3_mends_114 rfl ?_
            refine mz_wst G hA dX3_mends_115 rfl (9) rfl (by decide) ?_
            refine z_aload_n G dX3_mends_116 rfl rfl rfl ?_
            refine z_iconst G dX3_mends_117 rfl (v := 0) (by decide) ?_
            refine z_V G dX3_mends_118 rfl m_X3_leavesBench q2731 (C_X3_leavesBench h0) (by decide) (As := [_]) rfl rfl (Nat.le_of_ble_eq_true rfl) (Nat.zero_le _) (Nat.zero_le _) (mhas hA) (⟨_, _, _, _, _, 0, nb, hA, rfl, rfl, by (repeat rw [upd_n (by omega)]); rw [hw, use_o (by decide) (by decide) (by omega)]; exact hp10, hp11, hp12, ?_⟩)
            refine z_iload_n G dX3_mends_121 rfl rfl rfl ?_
            exact z_iret G dX3_mends_122 rfl rfl (by rw [r_men, ← hw, r_tkp, if_pos rfl] at hK; exact hK)
          · have c_47n := Int32.not_le.mp c_47
            have c_47N := (not_congr <| nI_leI (a := pc) (b := 0) (by omega) (by omega)).mp c_47
            refine z_aload_n G dX3_mends_50 rfl rfl rfl ?_
            refine mz_get G hA dX3_mends_51 rfl (j := 7) fl_X3_16_2 rfl ?_
            refine z_bipush G dX3_mends_54 rfl (v := 42) (by decide) ?_
            refine z_iload_n G dX3_mends_56 rfl rfl rfl ?_
            refine z_iaddN G (42) (pc) rfl rfl dX3_mends_57 rfl ?_
            refine z_dup2_11 G dX3_mends_58 rfl rfl rfl ?_
            refine mz_wld G hA dX3_mends_59 rfl (42 + pc) rfl (by omega) ?_
            refine z_iconst G dX3_mends_60 rfl (v := 1) (by decide) ?_
            refine z_isub G dX3_mends_61 rfl ?_
            refine mz_wst G hA dX3_mends_62 rfl (42 + pc) rfl (by omega) ?_
            refine z_aload_n G dX3_mends_63 rfl rfl rfl ?_
            refine z_iload_n G dX3_mends_64 rfl rfl rfl ?_
            refine z_iconst G dX3_mends_65 rfl (v := 0) (by decide) ?_
            refine z_aload_n G dX3_mends_66 rfl rfl rfl ?_
            refine z_iload_n G dX3_mends_67 rfl rfl rfl ?_
            refine z_iconst G dX3_mends_68 rfl (v := 0) (by decide) ?_
            refine z_V G dX3_mends_69 rfl m_X3_of q2751 (C_X3_of h0) (by decide) (As := [_, _]) rfl rfl (Nat.le_of_ble_eq_true rfl) (Nat.zero_le _) (Nat.zero_le _) (mhas hA) (⟨_, _, _, _, _, _, _, hA, rfl, rfl, (by first | assumption | decide | omega), (by first | assumption | decide | omega), ?_⟩)
            refine z_iload_n G dX3_mends_72 rfl rfl rfl ?_
            refine z_iadd G dX3_mends_73 rfl ?_
            refine z_V G dX3_mends_74 rfl m_X3_sets q2699 (C_X3_sets h0) (by decide) (As := [_, _, _]) rfl rfl (Nat.le_of_ble_eq_true rfl) (Nat.zero_le _) (Nat.zero_le _) (mhas hA) (⟨_, _, _, _, _, _, _, _, hA, rfl, rfl, (by first | assumption | decide | omega), (by first | assumption | decide | omega), ?_⟩)
            refine z_aload_n G dX3_mends_77 rfl rfl rfl ?_
            refine z_iload_n G dX3_mends_78 rfl rfl rfl ?_
            refine z_iconst G dX3_mends_79 rfl (v := 1) (by decide) ?_
            refine z_iconst G dX3_mends_80 rfl (v := 0) (by decide) ?_
            refine z_V G dX3_mends_81 rfl m_X3_sets q2699 (C_X3_sets h0) (by decide) (As := [_, _, _]) rfl rfl (Nat.le_of_ble_eq_true rfl) (Nat.zero_le _) (Nat.zero_le _) (mhas hA) (⟨_, _, _, _, _, _, _, _, hA, rfl, rfl, (by first | assumption | decide | omega), (by first | assumption | decide | omega), ?_⟩)
            refine z_aload_n G dX3_mends_84 rfl rfl rfl ?_
            refine z_iload_n G dX3_mends_85 rfl rfl rfl ?_
            refine z_iconst G dX3_mends_86 rfl (v := 2) (by decide) ?_
            refine z_iconst G dX3_mends_87 rfl (v := 0) (by decide) ?_
            refine z_V G dX3_mends_88 rfl m_X3_sets q2699 (C_X3_sets h0) (by decide) (As := [_, _, _]) rfl rfl (Nat.le_of_ble_eq_true rfl) (Nat.zero_le _) (Nat.zero_le _) (mhas hA) (⟨_, _, _, _, _, _, _, _, hA, rfl, rfl, (by first | assumption | decide | omega), (by first | assumption | decide | omega), ?_⟩)
            refine z_aload_n G dX3_mends_91 rfl rfl rfl ?_
            refine z_iload_n G dX3_mends_92 rfl rfl rfl ?_
            refine z_iconst G dX3_mends_93 rfl (v := 3) (by decide) ?_
            refine z_aload_n G dX3_mends_94 rfl rfl rfl ?_
            refine z_iload_n G dX3_mends_95 rfl rfl rfl ?_
            refine z_iconst G dX3_mends_96 rfl (v := 3) (by decide) ?_
            refine z_V G dX3_mends_97 rfl m_X3_of q2751 (C_X3_of h0) (by decide) (As := [_, _]) rfl rfl (Nat.le_of_ble_eq_true rfl) (Nat.zero_le _) (Nat.zero_le _) (mhas hA) (⟨_, _, _, _, _, _, _, hA, rfl, rfl, (by first | assumption | decide | omega), (by first | assumption | decide | omega), ?_⟩)
            refine z_iconst G dX3_mends_100 rfl (v := 1) (by decide) ?_
            refine z_iadd G dX3_mends_101 rfl ?_
            refine z_V G dX3_mends_102 rfl m_X3_sets q2699 (C_X3_sets h0) (by decide) (As := [_, _, _]) rfl rfl (Nat.le_of_ble_eq_true rfl) (Nat.zero_le _) (Nat.zero_le _) (mhas hA) (⟨_, _, _, _, _, _, _, _, hA, rfl, rfl, (by first | assumption | decide | omega), (by first | assumption | decide | omega), ?_⟩)
            refine z_aload_n G dX3_mends_105 rfl rfl rfl ?_
            refine mz_get G hA dX3_mends_106 rfl (j := 7) fl_X3_16_2 rfl ?_
            refine z_bipush G dX3_mends_109 rfl (v := 9) (by decide) ?_
            refine z_dup2_11 G dX3_mends_111 rfl rfl rfl ?_
            refine mz_wld G hA dX3_mends_112 rfl (9) rfl (by decide) ?_
            refine z_iconst G dX3_mends_113 rfl (v := 1) (by decide) ?_
            refine z_iadd G dX3_mends_114 rfl ?_
            refine mz_wst G hA dX3_mends_115 rfl (9) rfl (by decide) ?_
            refine z_aload_n G dX3_mends_116 rfl rfl rfl ?_
            refine z_iconst G dX3_mends_117 rfl (v := 0) (by decide) ?_
            refine z_V G dX3_mends_118 rfl m_X3_leavesBench q2731 (C_X3_leavesBench h0) (by decide) (As := [_]) rfl rfl (Nat.le_of_ble_eq_true rfl) (Nat.zero_le _) (Nat.zero_le _) (mhas hA) (⟨_, _, _, _, _, 0, nb, hA, rfl, rfl, by (repeat rw [upd_n (by omega)]); rw [hw, use_o (by decide) (by decide) (by omega)]; exact hp10, hp11, hp12, ?_⟩)
            refine z_iload_n G dX3_mends_121 rfl rfl rfl ?_
            exact z_iret G dX3_mends_122 rfl rfl (by rw [r_men, ← hw, r_tkp, if_neg (by omega)] at hK; exact hK)
        · exact absurd ((not_congr <| nI_leI (a := 0) (b := 0) (by omega) (by omega)).mp c_21) (by omega)
      | succ n ih =>
        intro i w' hi hw
        refine z_iload_n G dX3_mends_20 rfl rfl rfl ?_
        refine z_if_le G dX3_mends_21 rfl (tgt := 46) (by decide) (fun c_21 => ?_) (fun c_21 => ?_)
        · exact absurd ((nI_leI (a := (n + 1)) (b := 0) (by omega) (by omega)).mp c_21) (by omega)
        · have c_21n := Int32.not_le.mp c_21
          have c_21N := (not_congr <| nI_leI (a := (n + 1)) (b := 0) (by omega) (by omega)).mp c_21
          refine z_aload_n G dX3_mends_24 rfl rfl rfl ?_
          refine z_iconst G dX3_mends_25 rfl (v := 0) (by decide) ?_
          refine z_V G dX3_mends_26 rfl m_X3_lumpGoes q2835 (C_X3_lumpGoes h0) (by decide) (As := [_]) rfl rfl (Nat.le_of_ble_eq_true rfl) (Nat.zero_le _) (Nat.zero_le _) (mhas hA) (⟨_, _, _, _, _, 0, nl - i, hA, rfl, rfl, by rw [hw]; exact use_4 hp8 i, by omega, by omega, ?_⟩)
          refine z_aload_n G dX3_mends_29 rfl rfl rfl ?_
          refine mz_get G hA dX3_mends_30 rfl (j := 7) fl_X3_16_2 rfl ?_
          refine z_bipush G dX3_mends_33 rfl (v := 6) (by decide) ?_
          refine z_dup2_11 G dX3_mends_35 rfl rfl rfl ?_
          refine mz_wld G hA dX3_mends_36 rfl (6) rfl (by decide) ?_
          refine z_iconst G dX3_mends_37 rfl (v := 1) (by decide) ?_
          refine z_iadd G dX3_mends_38 rfl ?_
          refine mz_wst G hA dX3_mends_39 rfl (6) rfl (by decide) ?_
          refine z_iinc G dX3_mends_40 rfl rfl (pk_m1 n) (by decide) (zcat_s rfl) (show Z 43 [_, _, _, _] _ _ _ _ from ?_)
          refine z_goto G dX3_mends_43 (tgt := 20) (by decide) ?_
          exact ih (i + 1) _ (by omega) (by rw [hw]; rfl)
    exact L20 lm 0 w (by omega) rfl
def T_X3_mend : List Value → Hp → (Res → Hp → Prop) → Prop := fun av g K => ∃ (A : Nat → Nat) (S : Nat → Int32) (F : Nat → Nat → Int32) (w : Nat → Int32) (g0 : Hp) (c f : Nat) (p st h pc nb lm nl : Nat), mok A ∧ g = mdl A S F w g0 ∧ av = [.ref (A 0)] ∧ S 11 = nI c ∧ c ≤ 8 ∧ S 12 = nI f ∧ f < 8 ∧ w 0 = nI h ∧ h < 2 ^ 30 ∧ r_has w h false 0 ∧ (¬ w 3 = 0 → w 12 = nI p ∧ p < 10 ∧ pw w p 0 = nI st ∧ st ≤ 40) ∧ (o_mend w p st h = none → ¬ w 3 = 0 ∧ r_pof w st = nI pc ∧ pc ≤ 6 ∧ r_lum w p = nI lm ∧ lm ≤ nl ∧ 0 < nb) ∧ w 4 = nI nl ∧ nl ≤ 20 ∧ w 3 = nI nb ∧ nb ≤ 10 ∧ (∀ y, o_mend w p st h = some y → K (.inl (some (.int 0))) (mdl A (upd (nS (upd S 0 0) (some y)) 0 1) (m_ref (nS (upd S 0 0) (some y)) F) w g0)) ∧ (o_mend w p st h = none → K (.inl (some (.int (nI p)))) (mdl A (m_kmS (upd S 0 0) c f) (m_rem F w c f upA) (r_men w p pc nb lm nl) g0))
theorem C_X3_mend {l : Launch} {s0 : State} (h0 : St0 l s0) : Ctr l s0 yX3_mend (ws_ yX3_mend cX3_mend 1 (Option.some Jvm.ClassFile.FieldType.int)) 5 0 0 T_X3_mend := by
  refine ctr_of h0 (by decide) ?_ ?_
  · rintro av g K ⟨A, S, F, w, g0, c, f, p, st, h, pc, nb, lm, nl, hA, rfl, rfl, hc0, hc1, hc2, hc3, hp0, hp1, hp2, hp3, hp4, hp5, hp6, hp7, hp8, hR, hK⟩
    exact Nat.le_of_ble_eq_true rfl
  · rintro Z X av g K G ⟨A, S, F, w, g0, c, f, p, st, h, pc, nb, lm, nl, hA, rfl, rfl, hc0, hc1, hc2, hc3, hp0, hp1, hp2, hp3, hp4, hp5, hp6, hp7, hp8, hR, hK⟩
    show Z 0 [some (.ref (A 0))] [] _ _ _
    refine z_aload_n G dX3_mend_0 rfl rfl rfl ?_
    refine z_iconst G dX3_mend_1 rfl (v := 0) (by decide) ?_
    refine mz_put G hA dX3_mend_2 rfl (j := 0) fl_X3_42_2p rfl rfl (by decide) rfl ?_
    refine z_aload_n G dX3_mend_5 rfl rfl rfl ?_
    refine z_V G dX3_mend_6 rfl m_X3_notMend q2815 (C_X3_notMend h0) (by decide) (As := []) rfl rfl (Nat.le_of_ble_eq_true rfl) (Nat.zero_le _) (Nat.zero_le _) (mhas hA) (⟨_, _, _, _, _, _, _, _, hA, rfl, rfl, (by first | assumption | decide | omega), (by first | assumption | decide | omega), (by first | assumption | decide | omega), (by first | assumption | decide | omega), ?_⟩)
    refine z_if_eq G dX3_mend_9 rfl (tgt := 17) (by decide) (fun c_9 => ?_) (fun c_9 => ?_)
    · have ho := nrv_0 c_9
      rw [ho]
      obtain ⟨e1, e2, e3, e4, e5, e6⟩ := hp4 ho
      obtain ⟨q1, q2, q3, q4⟩ := hp3 e1
      refine z_aload_n G dX3_mend_17 rfl rfl rfl ?_
      refine z_V G dX3_mend_18 rfl m_X3_remembers q2687 (C_X3_remembers h0) (by decide) (As := []) rfl rfl (Nat.le_of_ble_eq_true rfl) (Nat.zero_le _) (Nat.zero_le _) (mhas hA) (⟨_, _, _, _, _, _, _, hA, rfl, rfl, (by first | assumption | decide | omega), (by first | assumption | decide | omega), (by first | assumption | decide | omega), (by first | assumption | decide | omega), ?_⟩)
      refine z_aload_n G dX3_mend_21 rfl rfl rfl ?_
      refine z_V G dX3_mend_22 rfl m_X3_mends q2831 (C_X3_mends h0) (by decide) (As := []) rfl rfl (Nat.le_of_ble_eq_true rfl) (Nat.zero_le _) (Nat.zero_le _) (mhas hA) (⟨_, _, _, _, _, _, _, _, _, _, _, hA, rfl, rfl, (by first | assumption | decide | omega), (by first | assumption | decide | omega), (by first | assumption | decide | omega), (by first | assumption | decide | omega), (by first | assumption | decide | omega), (by first | assumption | decide | omega), (by first | assumption | decide | omega), (by first | assumption | decide | omega), (by first | assumption | decide | omega), (by first | assumption | decide | omega), (by first | assumption | decide | omega), (by first | assumption | decide | omega), (by first | assumption | decide | omega), ?_⟩)
      exact z_iret G dX3_mend_25 rfl rfl (hK ho)
    · obtain ⟨y, hy⟩ := nrv_n c_9
      rw [hy]
      refine z_aload_n G dX3_mend_12 rfl rfl rfl ?_
      refine z_V G dX3_mend_13 rfl m_X3_refuses q2675 (C_X3_refuses h0) (by decide) (As := []) rfl rfl (Nat.le_of_ble_eq_true rfl) (Nat.zero_le _) (Nat.zero_le _) (mhas hA) (⟨_, _, _, _, _, hA, rfl, rfl, ?_⟩)
      exact z_iret G dX3_mend_16 rfl rfl (hR y hy)
def T_X3_whyNot : List Value → Hp → (Res → Hp → Prop) → Prop := fun av g K => ∃ (A : Nat → Nat) (S : Nat → Int32) (F : Nat → Nat → Int32) (w : Nat → Int32) (g0 : Hp) (p : Nat), mok A ∧ g = mdl A S F w g0 ∧ av = [.ref (A 0), .int (nI p)] ∧ p < 10 ∧ K (.inl (some (.int (r_why w p)))) g
theorem C_X3_whyNot {l : Launch} {s0 : State} (h0 : St0 l s0) : Ctr l s0 yX3_whyNot (ws_ yX3_whyNot cX3_whyNot 2 (Option.some Jvm.ClassFile.FieldType.int)) 2 0 0 T_X3_whyNot := by
  refine ctr_of h0 (by decide) ?_ ?_
  · rintro av g K ⟨A, S, F, w, g0, p, hA, rfl, rfl, hp0, hK⟩
    exact Nat.le_of_ble_eq_true rfl
  · rintro Z X av g K G ⟨A, S, F, w, g0, p, hA, rfl, rfl, hp0, hK⟩
    show Z 0 [some (.ref (A 0)), some (.int (nI p))] [] _ _ _
    refine z_aload_n G dX3_whyNot_0 rfl rfl rfl ?_
    refine z_iload_n G dX3_whyNot_1 rfl rfl rfl ?_
    refine z_iconst G dX3_whyNot_2 rfl (v := 0) (by decide) ?_
    refine z_V G dX3_whyNot_3 rfl m_X3_of q2751 (C_X3_of h0) (by decide) (As := [_, _]) rfl rfl (Nat.le_of_ble_eq_true rfl) (Nat.zero_le _) (Nat.zero_le _) (mhas hA) (⟨_, _, _, _, _, _, _, hA, rfl, rfl, (by first | assumption | decide | omega), (by first | assumption | decide | omega), ?_⟩)
    refine z_iconst G dX3_whyNot_6 rfl (v := 3) (by decide) ?_
    refine z_icmp_ge G dX3_whyNot_7 rfl (tgt := 14) (by decide) (fun c_7 => ?_) (fun c_7 => ?_)
    · have c_7n := Int32.not_lt.mpr c_7
      refine z_aload_n G dX3_whyNot_14 rfl rfl rfl ?_
      refine z_iload_n G dX3_whyNot_15 rfl rfl rfl ?_
      refine z_iconst G dX3_whyNot_16 rfl (v := 1) (by decide) ?_
      refine z_V G dX3_whyNot_17 rfl m_X3_of q2751 (C_X3_of h0) (by decide) (As := [_, _]) rfl rfl (Nat.le_of_ble_eq_true rfl) (Nat.zero_le _) (Nat.zero_le _) (mhas hA) (⟨_, _, _, _, _, _, _, hA, rfl, rfl, (by first | assumption | decide | omega), (by first | assumption | decide | omega), ?_⟩)
      refine z_iconst G dX3_whyNot_20 rfl (v := 2) (by decide) ?_
      refine z_icmp_le G dX3_whyNot_21 rfl (tgt := 28) (by decide) (fun c_21 => ?_) (fun c_21 => ?_)
      · have c_21n := Int32.not_lt.mpr c_21
        refine z_aload_n G dX3_whyNot_28 rfl rfl rfl ?_
        refine z_iload_n G dX3_whyNot_29 rfl rfl rfl ?_
        refine z_iconst G dX3_whyNot_30 rfl (v := 2) (by decide) ?_
        refine z_V G dX3_whyNot_31 rfl m_X3_of q2751 (C_X3_of h0) (by decide) (As := [_, _]) rfl rfl (Nat.le_of_ble_eq_true rfl) (Nat.zero_le _) (Nat.zero_le _) (mhas hA) (⟨_, _, _, _, _, _, _, hA, rfl, rfl, (by first | assumption | decide | omega), (by first | assumption | decide | omega), ?_⟩)
        refine z_iconst G dX3_whyNot_34 rfl (v := 4) (by decide) ?_
        refine z_icmp_le G dX3_whyNot_35 rfl (tgt := 42) (by decide) (fun c_35 => ?_) (fun c_35 => ?_)
        · have c_35n := Int32.not_lt.mpr c_35
          refine z_iconst G dX3_whyNot_42 rfl (v := (-1)) (by decide) ?_
          exact z_iret G dX3_whyNot_43 rfl rfl (by simpa [r_why, c_7, c_7n, c_21, c_21n, c_35, c_35n] using hK)
        · have c_35n := Int32.not_le.mp c_35
          refine z_iconst G dX3_whyNot_38 rfl (v := 2) (by decide) ?_
          refine z_goto G dX3_whyNot_39 (tgt := 43) (by decide) ?_
          exact z_iret G dX3_whyNot_43 rfl rfl (by simpa [r_why, c_7, c_7n, c_21, c_21n, c_35, c_35n] using hK)
      · have c_21n := Int32.not_le.mp c_21
        refine z_iconst G dX3_whyNot_24 rfl (v := 1) (by decide) ?_
        refine z_goto G dX3_whyNot_25 (tgt := 43) (by decide) ?_
        exact z_iret G dX3_whyNot_43 rfl rfl (by simpa [r_why, c_7, c_7n, c_21, c_21n] using hK)
    · have c_7n := Int32.not_le.mp c_7
      refine z_iconst G dX3_whyNot_10 rfl (v := 0) (by decide) ?_
      refine z_goto G dX3_whyNot_11 (tgt := 43) (by decide) ?_
      exact z_iret G dX3_whyNot_43 rfl rfl (by simpa [r_why, c_7, c_7n] using hK)
def T_X3_notSmoke : List Value → Hp → (Res → Hp → Prop) → Prop := fun av g K => ∃ (A : Nat → Nat) (S : Nat → Int32) (F : Nat → Nat → Int32) (w : Nat → Int32) (g0 : Hp) (p : Int32) (nb pn : Nat), mok A ∧ g = mdl A S F w g0 ∧ av = [.ref (A 0), .int p] ∧ w 3 = nI nb ∧ nb ≤ 10 ∧ (isP w p = true → p = nI pn ∧ pn < 10) ∧ K (.inl (some (.int (nrv (o_smk w p nb pn))))) (mdl A (nS S (o_smk w p nb pn)) F w g0)
theorem C_X3_notSmoke {l : Launch} {s0 : State} (h0 : St0 l s0) : Ctr l s0 yX3_notSmoke (ws_ yX3_notSmoke cX3_notSmoke 2 (Option.some Jvm.ClassFile.FieldType.int)) 3 0 0 T_X3_notSmoke := by
  refine ctr_of h0 (by decide) ?_ ?_
  · rintro av g K ⟨A, S, F, w, g0, p, nb, pn, hA, rfl, rfl, hp0, hp1, hp2, hK⟩
    exact Nat.le_of_ble_eq_true rfl
  · rintro Z X av g K G ⟨A, S, F, w, g0, p, nb, pn, hA, rfl, rfl, hp0, hp1, hp2, hK⟩
    show Z 0 [some (.ref (A 0)), some (.int p)] [] _ _ _
    refine z_aload_n G dX3_notSmoke_0 rfl rfl rfl ?_
    refine z_iload_n G dX3_notSmoke_1 rfl rfl rfl ?_
    refine z_V G dX3_notSmoke_2 rfl m_X3_isPipe q2711 (C_X3_isPipe h0) (by decide) (As := [_]) rfl rfl (Nat.le_of_ble_eq_true rfl) (Nat.zero_le _) (Nat.zero_le _) (mhas hA) (⟨_, _, _, _, _, _, hA, rfl, rfl, ?_⟩)
    refine z_if_ne G dX3_notSmoke_5 rfl (tgt := 15) (by decide) (fun c_5 => ?_) (fun c_5 => ?_)
    · have c_5b := bI_t c_5
      obtain ⟨rfl, hq⟩ := hp2 c_5b
      refine z_aload_n G dX3_notSmoke_15 rfl rfl rfl ?_
      refine z_iload_n G dX3_notSmoke_16 rfl rfl rfl ?_
      refine z_V G dX3_notSmoke_17 rfl m_X3_placeOf q2715 (C_X3_placeOf h0) (by decide) (As := [_]) rfl rfl (Nat.le_of_ble_eq_true rfl) (Nat.zero_le _) (Nat.zero_le _) (mhas hA) (⟨_, _, _, _, _, _, _, hA, rfl, rfl, (by first | assumption | decide | omega), (by first | assumption | decide | omega), ?_⟩)
      refine z_if_lt G dX3_notSmoke_20 rfl (tgt := 34) (by decide) (fun c_20 => ?_) (fun c_20 => ?_)
      · have c_20n := Int32.not_le.mpr c_20
        refine z_aload_n G dX3_notSmoke_34 rfl rfl rfl ?_
        refine z_iload_n G dX3_notSmoke_35 rfl rfl rfl ?_
        refine z_V G dX3_notSmoke_36 rfl m_X3_whyNot q2847 (C_X3_whyNot h0) (by decide) (As := [_]) rfl rfl (Nat.le_of_ble_eq_true rfl) (Nat.zero_le _) (Nat.zero_le _) (mhas hA) (⟨_, _, _, _, _, _, hA, rfl, rfl, (by first | assumption | decide | omega), ?_⟩)
        refine z_if_lt G dX3_notSmoke_39 rfl (tgt := 56) (by decide) (fun c_39 => ?_) (fun c_39 => ?_)
        · have c_39n := Int32.not_le.mpr c_39
          refine z_iconst G dX3_notSmoke_56 rfl (v := 0) (by decide) ?_
          exact z_iret G dX3_notSmoke_57 rfl rfl (by simpa [o_smk, isP, c_5, c_5b, c_20, c_20n, c_39, c_39n, nrv, nS] using hK)
        · have c_39n := Int32.not_lt.mp c_39
          refine z_aload_n G dX3_notSmoke_42 rfl rfl rfl ?_
          refine z_bipush G dX3_notSmoke_43 rfl (v := 12) (by decide) ?_
          refine z_aload_n G dX3_notSmoke_45 rfl rfl rfl ?_
          refine z_iload_n G dX3_notSmoke_46 rfl rfl rfl ?_
          refine z_V G dX3_notSmoke_47 rfl m_X3_whyNot q2847 (C_X3_whyNot h0) (by decide) (As := [_]) rfl rfl (Nat.le_of_ble_eq_true rfl) (Nat.zero_le _) (Nat.zero_le _) (mhas hA) (⟨_, _, _, _, _, _, hA, rfl, rfl, (by first | assumption | decide | omega), ?_⟩)
          refine z_V G dX3_notSmoke_50 rfl m_X3_isNot q2671 (C_X3_isNot h0) (by decide) (As := [_, _]) rfl rfl (Nat.le_of_ble_eq_true rfl) (Nat.zero_le _) (Nat.zero_le _) (mhas hA) (⟨_, _, _, _, _, _, _, hA, rfl, rfl, ?_⟩)
          refine z_goto G dX3_notSmoke_53 (tgt := 57) (by decide) ?_
          exact z_iret G dX3_notSmoke_57 rfl rfl (by simpa [o_smk, isP, c_5, c_5b, c_20, c_20n, c_39, c_39n, nrv, nS] using hK)
      · have c_20n := Int32.not_lt.mp c_20
        refine z_aload_n G dX3_notSmoke_23 rfl rfl rfl ?_
        refine z_iconst G dX3_notSmoke_24 rfl (v := 5) (by decide) ?_
        refine z_aload_n G dX3_notSmoke_25 rfl rfl rfl ?_
        refine z_iload_n G dX3_notSmoke_26 rfl rfl rfl ?_
        refine z_V G dX3_notSmoke_27 rfl m_X3_placeOf q2715 (C_X3_placeOf h0) (by decide) (As := [_]) rfl rfl (Nat.le_of_ble_eq_true rfl) (Nat.zero_le _) (Nat.zero_le _) (mhas hA) (⟨_, _, _, _, _, _, _, hA, rfl, rfl, (by first | assumption | decide | omega), (by first | assumption | decide | omega), ?_⟩)
        refine z_V G dX3_notSmoke_30 rfl m_X3_isNot q2671 (C_X3_isNot h0) (by decide) (As := [_, _]) rfl rfl (Nat.le_of_ble_eq_true rfl) (Nat.zero_le _) (Nat.zero_le _) (mhas hA) (⟨_, _, _, _, _, _, _, hA, rfl, rfl, ?_⟩)
        exact z_iret G dX3_notSmoke_33 rfl rfl (by simpa [o_smk, isP, c_5, c_5b, c_20, c_20n, nrv, nS] using hK)
    · have c_5b := bI_f c_5
      refine z_aload_n G dX3_notSmoke_8 rfl rfl rfl ?_
      refine z_iconst G dX3_notSmoke_9 rfl (v := 1) (by decide) ?_
      refine z_iload_n G dX3_notSmoke_10 rfl rfl rfl ?_
      refine z_V G dX3_notSmoke_11 rfl m_X3_isNot q2671 (C_X3_isNot h0) (by decide) (As := [_, _]) rfl rfl (Nat.le_of_ble_eq_true rfl) (Nat.zero_le _) (Nat.zero_le _) (mhas hA) (⟨_, _, _, _, _, _, _, hA, rfl, rfl, ?_⟩)
      exact z_iret G dX3_notSmoke_14 rfl rfl (by simpa [o_smk, isP, c_5, c_5b, nrv, nS] using hK)
def T_X3_smokesOnce : List Value → Hp → (Res → Hp → Prop) → Prop := fun av g K => ∃ (A : Nat → Nat) (S : Nat → Int32) (F : Nat → Nat → Int32) (w : Nat → Int32) (g0 : Hp) (p : Nat), mok A ∧ g = mdl A S F w g0 ∧ av = [.ref (A 0), .int (nI p)] ∧ p < 10 ∧ K (.inl (some (.int (pw (r_smk w p) p 2)))) (mdl A S F (r_smk w p) g0)
theorem C_X3_smokesOnce {l : Launch} {s0 : State} (h0 : St0 l s0) : Ctr l s0 yX3_smokesOnce (ws_ yX3_smokesOnce cX3_smokesOnce 2 (Option.some Jvm.ClassFile.FieldType.int)) 2 0 0 T_X3_smokesOnce := by
  refine ctr_of h0 (by decide) ?_ ?_
  · rintro av g K ⟨A, S, F, w, g0, p, hA, rfl, rfl, hp0, hK⟩
    exact Nat.le_of_ble_eq_true rfl
  · rintro Z X av g K G ⟨A, S, F, w, g0, p, hA, rfl, rfl, hp0, hK⟩
    show Z 0 [some (.ref (A 0)), some (.int (nI p))] [] _ _ _
    refine z_aload_n G dX3_smokesOnce_0 rfl rfl rfl ?_
    refine z_iload_n G dX3_smokesOnce_1 rfl rfl rfl ?_
    refine z_iconst G dX3_smokesOnce_2 rfl (v := 2) (by decide) ?_
    refine z_aload_n G dX3_smokesOnce_3 rfl rfl rfl ?_
    refine z_iload_n G dX3_smokesOnce_4 rfl rfl rfl ?_
    refine z_iconst G dX3_smokesOnce_5 rfl (v := 2) (by decide) ?_
    refine z_V G dX3_smokesOnce_6 rfl m_X3_of q2751 (C_X3_of h0) (by decide) (As := [_, _]) rfl rfl (Nat.le_of_ble_eq_true rfl) (Nat.zero_le _) (Nat.zero_le _) (mhas hA) (⟨_, _, _, _, _, _, _, hA, rfl, rfl, (by first | assumption | decide | omega), (by first | assumption | decide | omega), ?_⟩)
    refine z_iconst G dX3_smokesOnce_9 rfl (v := 1) (by decide) ?_
    refine z_iadd G dX3_smokesOnce_10 rfl ?_
    refine z_S G dX3_smokesOnce_11 rfl m_X3_held q2855 (C_X3_held h0) (by decide) (As := [_]) rfl rfl (Nat.le_of_ble_eq_true rfl) (Nat.zero_le _) (Nat.zero_le _) (⟨_, rfl, ?_⟩)
    refine z_V G dX3_smokesOnce_14 rfl m_X3_sets q2699 (C_X3_sets h0) (by decide) (As := [_, _, _]) rfl rfl (Nat.le_of_ble_eq_true rfl) (Nat.zero_le _) (Nat.zero_le _) (mhas hA) (⟨_, _, _, _, _, _, _, _, hA, rfl, rfl, (by first | assumption | decide | omega), (by first | assumption | decide | omega), ?_⟩)
    refine z_aload_n G dX3_smokesOnce_17 rfl rfl rfl ?_
    refine z_iload_n G dX3_smokesOnce_18 rfl rfl rfl ?_
    refine z_iconst G dX3_smokesOnce_19 rfl (v := 2) (by decide) ?_
    refine z_V G dX3_smokesOnce_20 rfl m_X3_of q2751 (C_X3_of h0) (by decide) (As := [_, _]) rfl rfl (Nat.le_of_ble_eq_true rfl) (Nat.zero_le _) (Nat.zero_le _) (mhas hA) (⟨_, _, _, _, _, _, _, hA, rfl, rfl, (by first | assumption | decide | omega), (by first | assumption | decide | omega), ?_⟩)
    refine z_iconst G dX3_smokesOnce_23 rfl (v := 4) (by decide) ?_
    refine z_icmp_lt G dX3_smokesOnce_24 rfl (tgt := 44) (by decide) (fun c_24 => ?_) (fun c_24 => ?_)
    · have c_24n := Int32.not_le.mpr c_24
      refine z_aload_n G dX3_smokesOnce_44 rfl rfl rfl ?_
      refine z_iload_n G dX3_smokesOnce_45 rfl rfl rfl ?_
      refine z_iconst G dX3_smokesOnce_46 rfl (v := 4) (by decide) ?_
      refine z_aload_n G dX3_smokesOnce_47 rfl rfl rfl ?_
      refine z_iload_n G dX3_smokesOnce_48 rfl rfl rfl ?_
      refine z_iconst G dX3_smokesOnce_49 rfl (v := 4) (by decide) ?_
      refine z_V G dX3_smokesOnce_50 rfl m_X3_of q2751 (C_X3_of h0) (by decide) (As := [_, _]) rfl rfl (Nat.le_of_ble_eq_true rfl) (Nat.zero_le _) (Nat.zero_le _) (mhas hA) (⟨_, _, _, _, _, _, _, hA, rfl, rfl, (by first | assumption | decide | omega), (by first | assumption | decide | omega), ?_⟩)
      refine z_iconst G dX3_smokesOnce_53 rfl (v := 1) (by decide) ?_
      refine z_iadd G dX3_smokesOnce_54 rfl ?_
      refine z_V G dX3_smokesOnce_55 rfl m_X3_sets q2699 (C_X3_sets h0) (by decide) (As := [_, _, _]) rfl rfl (Nat.le_of_ble_eq_true rfl) (Nat.zero_le _) (Nat.zero_le _) (mhas hA) (⟨_, _, _, _, _, _, _, _, hA, rfl, rfl, (by first | assumption | decide | omega), (by first | assumption | decide | omega), ?_⟩)
      refine z_aload_n G dX3_smokesOnce_58 rfl rfl rfl ?_
      refine mz_get G hA dX3_smokesOnce_59 rfl (j := 7) fl_X3_16_2 rfl ?_
      refine z_bipush G dX3_smokesOnce_62 rfl (v := 10) (by decide) ?_
      refine z_dup2_11 G dX3_smokesOnce_64 rfl rfl rfl ?_
      refine mz_wld G hA dX3_smokesOnce_65 rfl (10) rfl (by decide) ?_
      refine z_iconst G dX3_smokesOnce_66 rfl (v := 1) (by decide) ?_
      refine z_iadd G dX3_smokesOnce_67 rfl ?_
      refine mz_wst G hA dX3_smokesOnce_68 rfl (10) rfl (by decide) ?_
      refine z_aload_n G dX3_smokesOnce_69 rfl rfl rfl ?_
      refine z_iload_n G dX3_smokesOnce_70 rfl rfl rfl ?_
      refine z_iconst G dX3_smokesOnce_71 rfl (v := 2) (by decide) ?_
      refine z_V G dX3_smokesOnce_72 rfl m_X3_of q2751 (C_X3_of h0) (by decide) (As := [_, _]) rfl rfl (Nat.le_of_ble_eq_true rfl) (Nat.zero_le _) (Nat.zero_le _) (mhas hA) (⟨_, _, _, _, _, _, _, hA, rfl, rfl, (by first | assumption | decide | omega), (by first | assumption | decide | omega), ?_⟩)
      exact z_iret G dX3_smokesOnce_75 rfl rfl (by first | (rw [r_smk, r_sm2, if_pos (show pw (r_sm1 w p) p 2 < 4 from c_24)] at hK; exact hK) | (rw [r_smk, r_sm2, if_neg (show ¬ pw (r_sm1 w p) p 2 < 4 from c_24)] at hK; exact hK))
    · have c_24n := Int32.not_lt.mp c_24
      refine z_aload_n G dX3_smokesOnce_27 rfl rfl rfl ?_
      refine z_iload_n G dX3_smokesOnce_28 rfl rfl rfl ?_
      refine z_iconst G dX3_smokesOnce_29 rfl (v := 1) (by decide) ?_
      refine z_aload_n G dX3_smokesOnce_30 rfl rfl rfl ?_
      refine z_iload_n G dX3_smokesOnce_31 rfl rfl rfl ?_
      refine z_iconst G dX3_smokesOnce_32 rfl (v := 1) (by decide) ?_
      refine z_V G dX3_smokesOnce_33 rfl m_X3_of q2751 (C_X3_of h0) (by decide) (As := [_, _]) rfl rfl (Nat.le_of_ble_eq_true rfl) (Nat.zero_le _) (Nat.zero_le _) (mhas hA) (⟨_, _, _, _, _, _, _, hA, rfl, rfl, (by first | assumption | decide | omega), (by first | assumption | decide | omega), ?_⟩)
      refine z_iconst G dX3_smokesOnce_36 rfl (v := 1) (by decide) ?_
      refine z_iadd G dX3_smokesOnce_37 rfl ?_
      refine z_S G dX3_smokesOnce_38 rfl m_X3_held q2855 (C_X3_held h0) (by decide) (As := [_]) rfl rfl (Nat.le_of_ble_eq_true rfl) (Nat.zero_le _) (Nat.zero_le _) (⟨_, rfl, ?_⟩)
      refine z_V G dX3_smokesOnce_41 rfl m_X3_sets q2699 (C_X3_sets h0) (by decide) (As := [_, _, _]) rfl rfl (Nat.le_of_ble_eq_true rfl) (Nat.zero_le _) (Nat.zero_le _) (mhas hA) (⟨_, _, _, _, _, _, _, _, hA, rfl, rfl, (by first | assumption | decide | omega), (by first | assumption | decide | omega), ?_⟩)
      refine z_aload_n G dX3_smokesOnce_44 rfl rfl rfl ?_
      refine z_iload_n G dX3_smokesOnce_45 rfl rfl rfl ?_
      refine z_iconst G dX3_smokesOnce_46 rfl (v := 4) (by decide) ?_
      refine z_aload_n G dX3_smokesOnce_47 rfl rfl rfl ?_
      refine z_iload_n G dX3_smokesOnce_48 rfl rfl rfl ?_
      refine z_iconst G dX3_smokesOnce_49 rfl (v := 4) (by decide) ?_
      refine z_V G dX3_smokesOnce_50 rfl m_X3_of q2751 (C_X3_of h0) (by decide) (As := [_, _]) rfl rfl (Nat.le_of_ble_eq_true rfl) (Nat.zero_le _) (Nat.zero_le _) (mhas hA) (⟨_, _, _, _, _, _, _, hA, rfl, rfl, (by first | assumption | decide | omega), (by first | assumption | decide | omega), ?_⟩)
      refine z_iconst G dX3_smokesOnce_53 rfl (v := 1) (by decide) ?_
      refine z_iadd G dX3_smokesOnce_54 rfl ?_
      refine z_V G dX3_smokesOnce_55 rfl m_X3_sets q2699 (C_X3_sets h0) (by decide) (As := [_, _, _]) rfl rfl (Nat.le_of_ble_eq_true rfl) (Nat.zero_le _) (Nat.zero_le _) (mhas hA) (⟨_, _, _, _, _, _, _, _, hA, rfl, rfl, (by first | assumption | decide | omega), (by first | assumption | decide | omega), ?_⟩)
      refine z_aload_n G dX3_smokesOnce_58 rfl rfl rfl ?_
      refine mz_get G hA dX3_smokesOnce_59 rfl (j := 7) fl_X3_16_2 rfl ?_
      refine z_bipush G dX3_smokesOnce_62 rfl (v := 10) (by decide) ?_
      refine z_dup2_11 G dX3_smokesOnce_64 rfl rfl rfl ?_
      refine mz_wld G hA dX3_smokesOnce_65 rfl (10) rfl (by decide) ?_
      refine z_iconst G dX3_smokesOnce_66 rfl (v := 1) (by decide) ?_
      refine z_iadd G dX3_smokesOnce_67 rfl ?_
      refine mz_wst G hA dX3_smokesOnce_68 rfl (10) rfl (by decide) ?_
      refine z_aload_n G dX3_smokesOnce_69 rfl rfl rfl ?_
      refine z_iload_n G dX3_smokesOnce_70 rfl rfl rfl ?_
      refine z_iconst G dX3_smokesOnce_71 rfl (v := 2) (by decide) ?_
      refine z_V G dX3_smokesOnce_72 rfl m_X3_of q2751 (C_X3_of h0) (by decide) (As := [_, _]) rfl rfl (Nat.le_of_ble_eq_true rfl) (Nat.zero_le _) (Nat.zero_le _) (mhas hA) (⟨_, _, _, _, _, _, _, hA, rfl, rfl, (by first | assumption | decide | omega), (by first | assumption | decide | omega), ?_⟩)
      exact z_iret G dX3_smokesOnce_75 rfl rfl (by first | (rw [r_smk, r_sm2, if_pos (show pw (r_sm1 w p) p 2 < 4 from c_24)] at hK; exact hK) | (rw [r_smk, r_sm2, if_neg (show ¬ pw (r_sm1 w p) p 2 < 4 from c_24)] at hK; exact hK))
def T_X3_drops : List Value → Hp → (Res → Hp → Prop) → Prop := fun av g K => ∃ (A : Nat → Nat) (S : Nat → Int32) (F : Nat → Nat → Int32) (w : Nat → Int32) (g0 : Hp) (p ht : Nat), mok A ∧ g = mdl A S F w g0 ∧ av = [.ref (A 0), .int (nI p), .int (nI ht)] ∧ p < 10 ∧ ht ≤ 9 ∧ K (.inl (some (.int (pw (r_drp w p ht) p 1)))) (mdl A S F (r_drp w p ht) g0)
theorem C_X3_drops {l : Launch} {s0 : State} (h0 : St0 l s0) : Ctr l s0 yX3_drops (ws_ yX3_drops cX3_drops 4 (Option.some Jvm.ClassFile.FieldType.int)) 2 0 0 T_X3_drops := by
  refine ctr_of h0 (by decide) ?_ ?_
  · rintro av g K ⟨A, S, F, w, g0, p, ht, hA, rfl, rfl, hp0, hp1, hK⟩
    exact Nat.le_of_ble_eq_true rfl
  · rintro Z X av g K G ⟨A, S, F, w, g0, p, ht, hA, rfl, rfl, hp0, hp1, hK⟩
    show Z 0 [some (.ref (A 0)), some (.int (nI p)), some (.int (nI ht)), none] [] _ _ _
    refine z_aload_n G dX3_drops_0 rfl rfl rfl ?_
    refine z_iload_n G dX3_drops_1 rfl rfl rfl ?_
    refine z_iconst G dX3_drops_2 rfl (v := 0) (by decide) ?_
    refine z_V G dX3_drops_3 rfl m_X3_of q2751 (C_X3_of h0) (by decide) (As := [_, _]) rfl rfl (Nat.le_of_ble_eq_true rfl) (Nat.zero_le _) (Nat.zero_le _) (mhas hA) (⟨_, _, _, _, _, _, _, hA, rfl, rfl, (by first | assumption | decide | omega), (by first | assumption | decide | omega), ?_⟩)
    refine z_iload_n G dX3_drops_6 rfl rfl rfl ?_
    refine z_iconst G dX3_drops_7 rfl (v := 2) (by decide) ?_
    refine z_idivN G (ht) (2) rfl rfl (by omega) (by omega) (by omega) dX3_drops_8 rfl ?_
    refine z_isub G dX3_drops_9 rfl ?_
    refine z_istore_n G dX3_drops_10 rfl (i := 3) rfl (by decide) (zcat_s rfl) (show Z 11 [_, _, _, _] _ _ _ _ from ?_)
    refine z_aload_n G dX3_drops_11 rfl rfl rfl ?_
    refine z_iload_n G dX3_drops_12 rfl rfl rfl ?_
    refine z_iconst G dX3_drops_13 rfl (v := 0) (by decide) ?_
    refine z_iload_n G dX3_drops_14 rfl rfl rfl ?_
    refine z_if_ge G dX3_drops_15 rfl (tgt := 22) (by decide) (fun c_15 => ?_) (fun c_15 => ?_)
    · have c_15n := Int32.not_lt.mpr c_15
      refine z_iload_n G dX3_drops_22 rfl rfl rfl ?_
      refine z_V G dX3_drops_23 rfl m_X3_sets q2699 (C_X3_sets h0) (by decide) (As := [_, _, _]) rfl rfl (Nat.le_of_ble_eq_true rfl) (Nat.zero_le _) (Nat.zero_le _) (mhas hA) (⟨_, _, _, _, _, _, _, _, hA, rfl, rfl, (by first | assumption | decide | omega), (by first | assumption | decide | omega), ?_⟩)
      refine z_aload_n G dX3_drops_26 rfl rfl rfl ?_
      refine z_iload_n G dX3_drops_27 rfl rfl rfl ?_
      refine z_iconst G dX3_drops_28 rfl (v := 1) (by decide) ?_
      refine z_aload_n G dX3_drops_29 rfl rfl rfl ?_
      refine z_iload_n G dX3_drops_30 rfl rfl rfl ?_
      refine z_iconst G dX3_drops_31 rfl (v := 1) (by decide) ?_
      refine z_V G dX3_drops_32 rfl m_X3_of q2751 (C_X3_of h0) (by decide) (As := [_, _]) rfl rfl (Nat.le_of_ble_eq_true rfl) (Nat.zero_le _) (Nat.zero_le _) (mhas hA) (⟨_, _, _, _, _, _, _, hA, rfl, rfl, (by first | assumption | decide | omega), (by first | assumption | decide | omega), ?_⟩)
      refine z_iload_n G dX3_drops_35 rfl rfl rfl ?_
      refine z_iconst G dX3_drops_36 rfl (v := 3) (by decide) ?_
      refine z_idivN G (ht) (3) rfl rfl (by omega) (by omega) (by omega) dX3_drops_37 rfl ?_
      refine z_iadd G dX3_drops_38 rfl ?_
      refine z_S G dX3_drops_39 rfl m_X3_held q2855 (C_X3_held h0) (by decide) (As := [_]) rfl rfl (Nat.le_of_ble_eq_true rfl) (Nat.zero_le _) (Nat.zero_le _) (⟨_, rfl, ?_⟩)
      refine z_V G dX3_drops_42 rfl m_X3_sets q2699 (C_X3_sets h0) (by decide) (As := [_, _, _]) rfl rfl (Nat.le_of_ble_eq_true rfl) (Nat.zero_le _) (Nat.zero_le _) (mhas hA) (⟨_, _, _, _, _, _, _, _, hA, rfl, rfl, (by first | assumption | decide | omega), (by first | assumption | decide | omega), ?_⟩)
      refine z_aload_n G dX3_drops_45 rfl rfl rfl ?_
      refine z_iload_n G dX3_drops_46 rfl rfl rfl ?_
      refine z_iconst G dX3_drops_47 rfl (v := 1) (by decide) ?_
      refine z_V G dX3_drops_48 rfl m_X3_of q2751 (C_X3_of h0) (by decide) (As := [_, _]) rfl rfl (Nat.le_of_ble_eq_true rfl) (Nat.zero_le _) (Nat.zero_le _) (mhas hA) (⟨_, _, _, _, _, _, _, hA, rfl, rfl, (by first | assumption | decide | omega), (by first | assumption | decide | omega), ?_⟩)
      exact z_iret G dX3_drops_51 rfl rfl (by first | (rw [r_drp, r_dr1, if_pos c_15] at hK; exact hK) | (rw [r_drp, r_dr1, if_neg c_15] at hK; exact hK))
    · have c_15n := Int32.not_le.mp c_15
      refine z_iconst G dX3_drops_18 rfl (v := 0) (by decide) ?_
      refine z_goto G dX3_drops_19 (tgt := 23) (by decide) ?_
      refine z_V G dX3_drops_23 rfl m_X3_sets q2699 (C_X3_sets h0) (by decide) (As := [_, _, _]) rfl rfl (Nat.le_of_ble_eq_true rfl) (Nat.zero_le _) (Nat.zero_le _) (mhas hA) (⟨_, _, _, _, _, _, _, _, hA, rfl, rfl, (by first | assumption | decide | omega), (by first | assumption | decide | omega), ?_⟩)
      refine z_aload_n G dX3_drops_26 rfl rfl rfl ?_
      refine z_iload_n G dX3_drops_27 rfl rfl rfl ?_
      refine z_iconst G dX3_drops_28 rfl (v := 1) (by decide) ?_
      refine z_aload_n G dX3_drops_29 rfl rfl rfl ?_
      refine z_iload_n G dX3_drops_30 rfl rfl rfl ?_
      refine z_iconst G dX3_drops_31 rfl (v := 1) (by decide) ?_
      refine z_V G dX3_drops_32 rfl m_X3_of q2751 (C_X3_of h0) (by decide) (As := [_, _]) rfl rfl (Nat.le_of_ble_eq_true rfl) (Nat.zero_le _) (Nat.zero_le _) (mhas hA) (⟨_, _, _, _, _, _, _, hA, rfl, rfl, (by first | assumption | decide | omega), (by first | assumption | decide | omega), ?_⟩)
      refine z_iload_n G dX3_drops_35 rfl rfl rfl ?_
      refine z_iconst G dX3_drops_36 rfl (v := 3) (by decide) ?_
      refine z_idivN G (ht) (3) rfl rfl (by omega) (by omega) (by omega) dX3_drops_37 rfl ?_
      refine z_iadd G dX3_drops_38 rfl ?_
      refine z_S G dX3_drops_39 rfl m_X3_held q2855 (C_X3_held h0) (by decide) (As := [_]) rfl rfl (Nat.le_of_ble_eq_true rfl) (Nat.zero_le _) (Nat.zero_le _) (⟨_, rfl, ?_⟩)
      refine z_V G dX3_drops_42 rfl m_X3_sets q2699 (C_X3_sets h0) (by decide) (As := [_, _, _]) rfl rfl (Nat.le_of_ble_eq_true rfl) (Nat.zero_le _) (Nat.zero_le _) (mhas hA) (⟨_, _, _, _, _, _, _, _, hA, rfl, rfl, (by first | assumption | decide | omega), (by first | assumption | decide | omega), ?_⟩)
      refine z_aload_n G dX3_drops_45 rfl rfl rfl ?_
      refine z_iload_n G dX3_drops_46 rfl rfl rfl ?_
      refine z_iconst G dX3_drops_47 rfl (v := 1) (by decide) ?_
      refine z_V G dX3_drops_48 rfl m_X3_of q2751 (C_X3_of h0) (by decide) (As := [_, _]) rfl rfl (Nat.le_of_ble_eq_true rfl) (Nat.zero_le _) (Nat.zero_le _) (mhas hA) (⟨_, _, _, _, _, _, _, hA, rfl, rfl, (by first | assumption | decide | omega), (by first | assumption | decide | omega), ?_⟩)
      exact z_iret G dX3_drops_51 rfl rfl (by first | (rw [r_drp, r_dr1, if_pos c_15] at hK; exact hK) | (rw [r_drp, r_dr1, if_neg c_15] at hK; exact hK))
