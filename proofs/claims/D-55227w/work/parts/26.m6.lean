/-! THE REFERENCE: hours -/
def T_X3_pairs : List Value → Hp → (Res → Hp → Prop) → Prop := fun av g K => ∃ (A : Nat → Nat) (S : Nat → Int32) (F : Nat → Nat → Int32) (w : Nat → Int32) (g0 : Hp) , mok A ∧ g = mdl A S F w g0 ∧ av = [.ref (A 0)] ∧ K (.inl (some (.int (nI (r_prs w 7))))) g
theorem C_X3_pairs {l : Launch} {s0 : State} (h0 : St0 l s0) : Ctr l s0 yX3_pairs (ws_ yX3_pairs cX3_pairs 3 (Option.some Jvm.ClassFile.FieldType.int)) 2 0 0 T_X3_pairs := by
  refine ctr_of h0 (by decide) ?_ ?_
  · rintro av g K ⟨A, S, F, w, g0, hA, rfl, rfl, hK⟩
    exact Nat.le_of_ble_eq_true rfl
  · rintro Z X av g K G ⟨A, S, F, w, g0, hA, rfl, rfl, hK⟩
    show Z 0 [some (.ref (A 0)), none, none] [] _ _ _
    refine z_iconst G dX3_pairs_0 rfl (v := 0) (by decide) ?_
    refine z_istore_n G dX3_pairs_1 rfl (i := 1) rfl (by decide) (zcat_s rfl) (show Z 2 [_, _, _] _ _ _ _ from ?_)
    refine z_iconst G dX3_pairs_2 rfl (v := 0) (by decide) ?_
    refine z_istore_n G dX3_pairs_3 rfl (i := 2) rfl (by decide) (zcat_s rfl) (show Z 4 [_, _, _] _ _ _ _ from ?_)
    have L4 : ∀ (n i v : Nat), i + n = 7 → v = r_prs w i → v ≤ i → Z 4 [some (.ref (A 0)), some (.int (nI v)), some (.int (nI i))] [] (mdl A S F w g0) 0 0 := by
      intro n
      induction n with
      | zero =>
        intro i v hi hv h9
        refine z_iload_n G dX3_pairs_4 rfl rfl rfl ?_
        refine z_iconst G dX3_pairs_5 rfl (v := 1) (by decide) ?_
        refine z_iaddN G (i) (1) rfl rfl dX3_pairs_6 rfl ?_
        refine z_bipush G dX3_pairs_7 rfl (v := 8) (by decide) ?_
        refine z_icmp_ge G dX3_pairs_9 rfl (tgt := 44) (by decide) (fun c_9 => ?_) (fun c_9 => ?_)
        · have c_9n := Int32.not_lt.mpr c_9
          have c_9N := (nI_leI (a := 8) (b := i + 1) (by omega) (by omega)).mp c_9
          obtain rfl : i = 7 := by omega
          subst hv
          refine z_iload_n G dX3_pairs_44 rfl rfl rfl ?_
          exact z_iret G dX3_pairs_45 rfl rfl (hK)
        · exact absurd ((not_congr <| nI_leI (a := 8) (b := i + 1) (by omega) (by omega)).mp c_9) (by omega)
      | succ n ih =>
        intro i v hi hv h9
        refine z_iload_n G dX3_pairs_4 rfl rfl rfl ?_
        refine z_iconst G dX3_pairs_5 rfl (v := 1) (by decide) ?_
        refine z_iaddN G (i) (1) rfl rfl dX3_pairs_6 rfl ?_
        refine z_bipush G dX3_pairs_7 rfl (v := 8) (by decide) ?_
        refine z_icmp_ge G dX3_pairs_9 rfl (tgt := 44) (by decide) (fun c_9 => ?_) (fun c_9 => ?_)
        · exact absurd ((nI_leI (a := 8) (b := i + 1) (by omega) (by omega)).mp c_9) (by omega)
        · have c_9n := Int32.not_le.mp c_9
          have c_9N := (not_congr <| nI_leI (a := 8) (b := i + 1) (by omega) (by omega)).mp c_9
          refine z_iload_n G dX3_pairs_12 rfl rfl rfl ?_
          refine z_aload_n G dX3_pairs_13 rfl rfl rfl ?_
          refine z_iload_n G dX3_pairs_14 rfl rfl rfl ?_
          refine z_V G dX3_pairs_15 rfl m_X3_isTaken q2901 (C_X3_isTaken h0) (by decide) (As := [_]) rfl rfl (Nat.le_of_ble_eq_true rfl) (Nat.zero_le _) (Nat.zero_le _) (mhas hA) (⟨_, _, _, _, _, _, hA, rfl, rfl, ?_⟩)
          refine z_if_eq G dX3_pairs_18 rfl (tgt := 35) (by decide) (fun c_18 => ?_) (fun c_18 => ?_)
          · have c_18b := bI_f c_18
            refine z_iconst G dX3_pairs_35 rfl (v := 0) (by decide) ?_
            refine z_iaddN G (v) (0) rfl rfl dX3_pairs_36 rfl ?_
            refine z_istore_n G dX3_pairs_37 rfl (i := 1) rfl (by decide) (zcat_s rfl) (show Z 38 [_, _, _] _ _ _ _ from ?_)
            refine z_iinc G dX3_pairs_38 rfl rfl (nI_1 _) (by decide) (zcat_s rfl) (show Z 41 [_, _, _] _ _ _ _ from ?_)
            refine z_goto G dX3_pairs_41 (tgt := 4) (by decide) ?_
            exact ih (i + 1) _ (by omega) (by rw [hv]; simp [r_prs, c_9, c_9n, c_9N, c_18, c_18b]) (by omega)
          · have c_18b := bI_t c_18
            refine z_aload_n G dX3_pairs_21 rfl rfl rfl ?_
            refine z_iload_n G dX3_pairs_22 rfl rfl rfl ?_
            refine z_iconst G dX3_pairs_23 rfl (v := 1) (by decide) ?_
            refine z_iaddN G (i) (1) rfl rfl dX3_pairs_24 rfl ?_
            refine z_V G dX3_pairs_25 rfl m_X3_isTaken q2901 (C_X3_isTaken h0) (by decide) (As := [_]) rfl rfl (Nat.le_of_ble_eq_true rfl) (Nat.zero_le _) (Nat.zero_le _) (mhas hA) (⟨_, _, _, _, _, _, hA, rfl, rfl, ?_⟩)
            refine z_if_eq G dX3_pairs_28 rfl (tgt := 35) (by decide) (fun c_28 => ?_) (fun c_28 => ?_)
            · have c_28b := bI_f c_28
              refine z_iconst G dX3_pairs_35 rfl (v := 0) (by decide) ?_
              refine z_iaddN G (v) (0) rfl rfl dX3_pairs_36 rfl ?_
              refine z_istore_n G dX3_pairs_37 rfl (i := 1) rfl (by decide) (zcat_s rfl) (show Z 38 [_, _, _] _ _ _ _ from ?_)
              refine z_iinc G dX3_pairs_38 rfl rfl (nI_1 _) (by decide) (zcat_s rfl) (show Z 41 [_, _, _] _ _ _ _ from ?_)
              refine z_goto G dX3_pairs_41 (tgt := 4) (by decide) ?_
              exact ih (i + 1) _ (by omega) (by rw [hv]; simp [r_prs, c_9, c_9n, c_9N, c_18, c_18b, c_28, c_28b]) (by omega)
            · have c_28b := bI_t c_28
              refine z_iconst G dX3_pairs_31 rfl (v := 1) (by decide) ?_
              refine z_goto G dX3_pairs_32 (tgt := 36) (by decide) ?_
              refine z_iaddN G (v) (1) rfl rfl dX3_pairs_36 rfl ?_
              refine z_istore_n G dX3_pairs_37 rfl (i := 1) rfl (by decide) (zcat_s rfl) (show Z 38 [_, _, _] _ _ _ _ from ?_)
              refine z_iinc G dX3_pairs_38 rfl rfl (nI_1 _) (by decide) (zcat_s rfl) (show Z 41 [_, _, _] _ _ _ _ from ?_)
              refine z_goto G dX3_pairs_41 (tgt := 4) (by decide) ?_
              exact ih (i + 1) _ (by omega) (by rw [hv]; simp [r_prs, c_9, c_9n, c_9N, c_18, c_18b, c_28, c_28b]) (by omega)
    exact L4 7 0 0 rfl rfl (Nat.le_refl _)
def T_X3_piecesBreak : List Value → Hp → (Res → Hp → Prop) → Prop := fun av g K => ∃ (A : Nat → Nat) (S : Nat → Int32) (F : Nat → Nat → Int32) (w : Nat → Int32) (g0 : Hp) , mok A ∧ g = mdl A S F w g0 ∧ av = [.ref (A 0)] ∧ K (.inl none) (mdl A S F (r_brk w (r_prs w 7)) g0)
theorem C_X3_piecesBreak {l : Launch} {s0 : State} (h0 : St0 l s0) : Ctr l s0 yX3_piecesBreak (ws_ yX3_piecesBreak cX3_piecesBreak 3 (Option.none : Option Jvm.ClassFile.FieldType)) 3 0 0 T_X3_piecesBreak := by
  refine ctr_of h0 (by decide) ?_ ?_
  · rintro av g K ⟨A, S, F, w, g0, hA, rfl, rfl, hK⟩
    exact Nat.le_of_ble_eq_true rfl
  · rintro Z X av g K G ⟨A, S, F, w, g0, hA, rfl, rfl, hK⟩
    show Z 0 [some (.ref (A 0)), none, none] [] _ _ _
    have hp := prs_le w 7
    refine z_aload_n G dX3_piecesBreak_0 rfl rfl rfl ?_
    refine z_V G dX3_piecesBreak_1 rfl m_X3_pairs q2945 (C_X3_pairs h0) (by decide) (As := []) rfl rfl (Nat.le_of_ble_eq_true rfl) (Nat.zero_le _) (Nat.zero_le _) (mhas hA) (⟨_, _, _, _, _, hA, rfl, rfl, ?_⟩)
    refine z_istore_n G dX3_piecesBreak_4 rfl (i := 1) rfl (by decide) (zcat_s rfl) (show Z 5 [_, _, _] _ _ _ _ from ?_)
    have L5 : ∀ (n : Nat) (w' : Nat → Int32) (o : Option Value), n ≤ 7 → K (.inl none) (mdl A S F (r_brk w' n) g0) → Z 5 [some (.ref (A 0)), some (.int (nI n)), o] [] (mdl A S F w' g0) 0 0 := by
      intro n
      induction n with
      | zero =>
        intro w' o hn hK
        refine z_iload_n G dX3_piecesBreak_5 rfl rfl rfl ?_
        refine z_if_le G dX3_piecesBreak_6 rfl (tgt := 71) (by decide) (fun c_6 => ?_) (fun c_6 => ?_)
        · have c_6n := Int32.not_lt.mpr c_6
          have c_6N := (nI_leI (a := 0) (b := 0) (by omega) (by omega)).mp c_6
          exact z_vret G dX3_piecesBreak_71 rfl (hK)
        · exact absurd ((not_congr <| nI_leI (a := 0) (b := 0) (by omega) (by omega)).mp c_6) (by omega)
      | succ n ih =>
        intro w' o hn hK
        have hl := lng_le w' 6
        refine z_iload_n G dX3_piecesBreak_5 rfl rfl rfl ?_
        refine z_if_le G dX3_piecesBreak_6 rfl (tgt := 71) (by decide) (fun c_6 => ?_) (fun c_6 => ?_)
        · exact absurd ((nI_leI (a := (n + 1)) (b := 0) (by omega) (by omega)).mp c_6) (by omega)
        · have c_6n := Int32.not_le.mp c_6
          have c_6N := (not_congr <| nI_leI (a := (n + 1)) (b := 0) (by omega) (by omega)).mp c_6
          refine z_aload_n G dX3_piecesBreak_9 rfl rfl rfl ?_
          refine z_V G dX3_piecesBreak_10 rfl m_X3_longestNow q2827 (C_X3_longestNow h0) (by decide) (As := []) rfl rfl (Nat.le_of_ble_eq_true rfl) (Nat.zero_le _) (Nat.zero_le _) (mhas hA) (⟨_, _, _, _, _, hA, rfl, rfl, ?_⟩)
          refine z_if_le G dX3_piecesBreak_13 rfl (tgt := 71) (by decide) (fun c_13 => ?_) (fun c_13 => ?_)
          · have c_13n := Int32.not_lt.mpr c_13
            have c_13N := (nI_leI (a := (r_lng w' 6)) (b := 0) (by omega) (by omega)).mp c_13
            exact z_vret G dX3_piecesBreak_71 rfl (by rw [r_brk, if_pos c_13N] at hK; exact hK)
          · have c_13n := Int32.not_le.mp c_13
            have c_13N := (not_congr <| nI_leI (a := (r_lng w' 6)) (b := 0) (by omega) (by omega)).mp c_13
            refine z_aload_n G dX3_piecesBreak_16 rfl rfl rfl ?_
            refine z_V G dX3_piecesBreak_17 rfl m_X3_longestNow q2827 (C_X3_longestNow h0) (by decide) (As := []) rfl rfl (Nat.le_of_ble_eq_true rfl) (Nat.zero_le _) (Nat.zero_le _) (mhas hA) (⟨_, _, _, _, _, hA, rfl, rfl, ?_⟩)
            refine z_istore_n G dX3_piecesBreak_20 rfl (i := 2) rfl (by decide) (zcat_s rfl) (show Z 21 [_, _, _] _ _ _ _ from ?_)
            refine z_aload_n G dX3_piecesBreak_21 rfl rfl rfl ?_
            refine mz_get G hA dX3_piecesBreak_22 rfl (j := 7) fl_X3_16_2 rfl ?_
            refine z_bipush G dX3_piecesBreak_25 rfl (v := 42) (by decide) ?_
            refine z_iload_n G dX3_piecesBreak_27 rfl rfl rfl ?_
            refine z_iaddN G (42) ((r_lng w' 6)) rfl rfl dX3_piecesBreak_28 rfl ?_
            refine z_dup2_11 G dX3_piecesBreak_29 rfl rfl rfl ?_
            refine mz_wld G hA dX3_piecesBreak_30 rfl (42 + (r_lng w' 6)) rfl (by omega) ?_
            refine z_iconst G dX3_piecesBreak_31 rfl (v := 1) (by decide) ?_
            refine z_isub G dX3_piecesBreak_32 rfl ?_
            refine mz_wst G hA dX3_piecesBreak_33 rfl (42 + (r_lng w' 6)) rfl (by omega) ?_
            refine z_iload_n G dX3_piecesBreak_34 rfl rfl rfl ?_
            refine z_iconst G dX3_piecesBreak_35 rfl (v := 1) (by decide) ?_
            refine z_icmp_le G dX3_piecesBreak_36 rfl (tgt := 54) (by decide) (fun c_36 => ?_) (fun c_36 => ?_)
            · have c_36n := Int32.not_lt.mpr c_36
              have c_36N := (nI_leI (a := (r_lng w' 6)) (b := 1) (by omega) (by omega)).mp c_36
              refine z_aload_n G dX3_piecesBreak_54 rfl rfl rfl ?_
              refine mz_get G hA dX3_piecesBreak_55 rfl (j := 7) fl_X3_16_2 rfl ?_
              refine z_bipush G dX3_piecesBreak_58 rfl (v := 8) (by decide) ?_
              refine z_dup2_11 G dX3_piecesBreak_60 rfl rfl rfl ?_
              refine mz_wld G hA dX3_piecesBreak_61 rfl (8) rfl (by decide) ?_
              refine z_iconst G dX3_piecesBreak_62 rfl (v := 1) (by decide) ?_
              refine z_iadd G dX3_piecesBreak_63 rfl ?_
              refine mz_wst G hA dX3_piecesBreak_64 rfl (8) rfl (by decide) ?_
              refine z_iinc G dX3_piecesBreak_65 rfl rfl (pk_m1 n) (by decide) (zcat_s rfl) (show Z 68 [_, _, _] _ _ _ _ from ?_)
              refine z_goto G dX3_piecesBreak_68 (tgt := 5) (by decide) ?_
              first | exact ih _ _ (by omega) (by rw [r_brk, if_neg c_13N, r_bk1, if_pos c_36N] at hK; exact hK) | exact ih _ _ (by omega) (by rw [r_brk, if_neg c_13N, r_bk1, if_neg c_36N] at hK; exact hK)
            · have c_36n := Int32.not_le.mp c_36
              have c_36N := (not_congr <| nI_leI (a := (r_lng w' 6)) (b := 1) (by omega) (by omega)).mp c_36
              refine z_aload_n G dX3_piecesBreak_39 rfl rfl rfl ?_
              refine mz_get G hA dX3_piecesBreak_40 rfl (j := 7) fl_X3_16_2 rfl ?_
              refine z_bipush G dX3_piecesBreak_43 rfl (v := 42) (by decide) ?_
              refine z_iload_n G dX3_piecesBreak_45 rfl rfl rfl ?_
              refine z_iaddN G (42) ((r_lng w' 6)) rfl rfl dX3_piecesBreak_46 rfl ?_
              refine z_iconst G dX3_piecesBreak_47 rfl (v := 1) (by decide) ?_
              refine z_isubN G (42 + (r_lng w' 6)) (1) rfl rfl (by omega) dX3_piecesBreak_48 rfl ?_
              refine z_dup2_11 G dX3_piecesBreak_49 rfl rfl rfl ?_
              refine mz_wld G hA dX3_piecesBreak_50 rfl (42 + (r_lng w' 6) - 1) rfl (by omega) ?_
              refine z_iconst G dX3_piecesBreak_51 rfl (v := 1) (by decide) ?_
              refine z_iadd G dX3_piecesBreak_52 rfl ?_
              refine mz_wst G hA dX3_piecesBreak_53 rfl (42 + (r_lng w' 6) - 1) rfl (by omega) ?_
              refine z_aload_n G dX3_piecesBreak_54 rfl rfl rfl ?_
              refine mz_get G hA dX3_piecesBreak_55 rfl (j := 7) fl_X3_16_2 rfl ?_
              refine z_bipush G dX3_piecesBreak_58 rfl (v := 8) (by decide) ?_
              refine z_dup2_11 G dX3_piecesBreak_60 rfl rfl rfl ?_
              refine mz_wld G hA dX3_piecesBreak_61 rfl (8) rfl (by decide) ?_
              refine z_iconst G dX3_piecesBreak_62 rfl (v := 1) (by decide) ?_
              refine z_iadd G dX3_piecesBreak_63 rfl ?_
              refine mz_wst G hA dX3_piecesBreak_64 rfl (8) rfl (by decide) ?_
              refine z_iinc G dX3_piecesBreak_65 rfl rfl (pk_m1 n) (by decide) (zcat_s rfl) (show Z 68 [_, _, _] _ _ _ _ from ?_)
              refine z_goto G dX3_piecesBreak_68 (tgt := 5) (by decide) ?_
              first | exact ih _ _ (by omega) (by rw [r_brk, if_neg c_13N, r_bk1, if_pos c_36N] at hK; exact hK) | exact ih _ _ (by omega) (by rw [r_brk, if_neg c_13N, r_bk1, if_neg c_36N] at hK; exact hK)
    exact L5 (r_prs w 7) w _ hp hK
def T_X3_lumpsDry : List Value → Hp → (Res → Hp → Prop) → Prop := fun av g K => ∃ (A : Nat → Nat) (S : Nat → Int32) (F : Nat → Nat → Int32) (w : Nat → Int32) (g0 : Hp) (nl : Nat), mok A ∧ g = mdl A S F w g0 ∧ av = [.ref (A 0)] ∧ w 4 = nI nl ∧ nl ≤ 20 ∧ K (.inl (some (.int (nI (r_dry nl w nl 0).2.2)))) (mdl A S F (r_drW w nl) g0)
theorem C_X3_lumpsDry {l : Launch} {s0 : State} (h0 : St0 l s0) : Ctr l s0 yX3_lumpsDry (ws_ yX3_lumpsDry cX3_lumpsDry 3 (Option.some Jvm.ClassFile.FieldType.int)) 2 0 0 T_X3_lumpsDry := by
  refine ctr_of h0 (by decide) ?_ ?_
  · rintro av g K ⟨A, S, F, w, g0, nl, hA, rfl, rfl, hp0, hp1, hK⟩
    exact Nat.le_of_ble_eq_true rfl
  · rintro Z X av g K G ⟨A, S, F, w, g0, nl, hA, rfl, rfl, hp0, hp1, hK⟩
    show Z 0 [some (.ref (A 0)), none, none] [] _ _ _
    refine z_iconst G dX3_lumpsDry_0 rfl (v := 0) (by decide) ?_
    refine z_istore_n G dX3_lumpsDry_1 rfl (i := 1) rfl (by decide) (zcat_s rfl) (show Z 2 [_, _, _] _ _ _ _ from ?_)
    refine z_aload_n G dX3_lumpsDry_2 rfl rfl rfl ?_
    refine mz_get G hA dX3_lumpsDry_3 rfl (j := 7) fl_X3_16_2 rfl ?_
    refine z_iconst G dX3_lumpsDry_6 rfl (v := 4) (by decide) ?_
    refine mz_wldN G hA dX3_lumpsDry_7 rfl (4) rfl (by decide) (nl) hp0 ?_
    refine z_iconst G dX3_lumpsDry_8 rfl (v := 1) (by decide) ?_
    refine z_isub G dX3_lumpsDry_9 rfl ?_
    refine z_istore_n G dX3_lumpsDry_10 rfl (i := 2) rfl (by decide) (zcat_s rfl) (show Z 11 [_, _, _] _ _ _ _ from ?_)
    have L11 : ∀ (n : Nat) (w' : Nat → Int32) (m d : Nat) (x : Int32), x = nI n - 1 → n ≤ m → m ≤ 20 → w' 4 = nI m → d + n ≤ 20 → K (.inl (some (.int (nI (r_dry n w' m d).2.2)))) (mdl A S F (upd (r_dry n w' m d).1 7 ((r_dry n w' m d).1 7 + nI (r_dry n w' m d).2.2)) g0) → Z 11 [some (.ref (A 0)), some (.int (nI d)), some (.int x)] [] (mdl A S F w' g0) 0 0 := by
      intro n
      induction n with
      | zero =>
        intro w' m d x hx hn hm h4 hd hK
        subst hx
        refine z_iload_n G dX3_lumpsDry_11 rfl rfl rfl ?_
        refine z_if_lt G dX3_lumpsDry_12 rfl (tgt := 57) (by decide) (fun c_12 => ?_) (fun c_12 => ?_)
        · have c_12n := Int32.not_le.mpr c_12
          refine z_aload_n G dX3_lumpsDry_57 rfl rfl rfl ?_
          refine mz_get G hA dX3_lumpsDry_58 rfl (j := 7) fl_X3_16_2 rfl ?_
          refine z_bipush G dX3_lumpsDry_61 rfl (v := 7) (by decide) ?_
          refine z_dup2_11 G dX3_lumpsDry_63 rfl rfl rfl ?_
          refine mz_wld G hA dX3_lumpsDry_64 rfl (7) rfl (by decide) ?_
          refine z_iload_n G dX3_lumpsDry_65 rfl rfl rfl ?_
          refine z_iadd G dX3_lumpsDry_66 rfl ?_
          refine mz_wst G hA dX3_lumpsDry_67 rfl (7) rfl (by decide) ?_
          refine z_iload_n G dX3_lumpsDry_68 rfl rfl rfl ?_
          exact z_iret G dX3_lumpsDry_69 rfl rfl (hK)
        · exact absurd (by decide) c_12
      | succ n ih =>
        intro w' m d x hx hn hm h4 hd hK
        rw [nI_pred] at hx
        subst hx
        refine z_iload_n G dX3_lumpsDry_11 rfl rfl rfl ?_
        refine z_if_lt G dX3_lumpsDry_12 rfl (tgt := 57) (by decide) (fun c_12 => ?_) (fun c_12 => ?_)
        · exact absurd ((nI_ltI (a := n) (b := 0) (by omega) (by omega)).mp c_12) (by omega)
        · have c_12n := Int32.not_lt.mp c_12
          have c_12N := (not_congr <| nI_ltI (a := n) (b := 0) (by omega) (by omega)).mp c_12
          refine z_aload_n G dX3_lumpsDry_15 rfl rfl rfl ?_
          refine mz_get G hA dX3_lumpsDry_16 rfl (j := 7) fl_X3_16_2 rfl ?_
          refine z_bipush G dX3_lumpsDry_19 rfl (v := 22) (by decide) ?_
          refine z_iload_n G dX3_lumpsDry_21 rfl rfl rfl ?_
          refine z_iaddN G (22) (n) rfl rfl dX3_lumpsDry_22 rfl ?_
          refine z_dup2_11 G dX3_lumpsDry_23 rfl rfl rfl ?_
          refine mz_wld G hA dX3_lumpsDry_24 rfl (22 + n) rfl (by omega) ?_
          refine z_iconst G dX3_lumpsDry_25 rfl (v := 1) (by decide) ?_
          refine z_isub G dX3_lumpsDry_26 rfl ?_
          refine mz_wst G hA dX3_lumpsDry_27 rfl (22 + n) rfl (by omega) ?_
          refine z_aload_n G dX3_lumpsDry_28 rfl rfl rfl ?_
          refine mz_get G hA dX3_lumpsDry_29 rfl (j := 7) fl_X3_16_2 rfl ?_
          refine z_bipush G dX3_lumpsDry_32 rfl (v := 22) (by decide) ?_
          refine z_iload_n G dX3_lumpsDry_34 rfl rfl rfl ?_
          refine z_iaddN G (22) (n) rfl rfl dX3_lumpsDry_35 rfl ?_
          refine mz_wld G hA dX3_lumpsDry_36 rfl (22 + n) rfl (by omega) ?_
          refine z_if_le G dX3_lumpsDry_37 rfl (tgt := 43) (by decide) (fun c_37 => ?_) (fun c_37 => ?_)
          · have c_37n := Int32.not_lt.mpr c_37
            refine z_aload_n G dX3_lumpsDry_43 rfl rfl rfl ?_
            refine z_iload_n G dX3_lumpsDry_44 rfl rfl rfl ?_
            refine z_V G dX3_lumpsDry_45 rfl m_X3_lumpGoes q2835 (C_X3_lumpGoes h0) (by decide) (As := [_]) rfl rfl (Nat.le_of_ble_eq_true rfl) (Nat.zero_le _) (Nat.zero_le _) (mhas hA) (⟨_, _, _, _, _, n, m, hA, rfl, rfl, by rw [upd_n (by omega)]; exact h4, by omega, by omega, ?_⟩)
            refine z_iinc G dX3_lumpsDry_48 rfl rfl (nI_1 _) (by decide) (zcat_s rfl) (show Z 51 [_, _, _] _ _ _ _ from ?_)
            refine z_iinc G dX3_lumpsDry_51 rfl rfl (dec_1 _) (by decide) (zcat_s rfl) (show Z 54 [_, _, _] _ _ _ _ from ?_)
            refine z_goto G dX3_lumpsDry_54 (tgt := 11) (by decide) ?_
            first | exact ih _ m d _ rfl (by omega) hm (by rw [upd_n (by omega)]; exact h4) (by omega) (by rw [r_dry, if_neg c_37] at hK; exact hK) | exact ih _ (m - 1) (d + 1) _ rfl (by omega) (by omega) lgo_4 (by omega) (by rw [r_dry, if_pos c_37] at hK; exact hK)
          · have c_37n := Int32.not_le.mp c_37
            refine z_goto G dX3_lumpsDry_40 (tgt := 51) (by decide) ?_
            refine z_iinc G dX3_lumpsDry_51 rfl rfl (dec_1 _) (by decide) (zcat_s rfl) (show Z 54 [_, _, _] _ _ _ _ from ?_)
            refine z_goto G dX3_lumpsDry_54 (tgt := 11) (by decide) ?_
            first | exact ih _ m d _ rfl (by omega) hm (by rw [upd_n (by omega)]; exact h4) (by omega) (by rw [r_dry, if_neg c_37] at hK; exact hK) | exact ih _ (m - 1) (d + 1) _ rfl (by omega) (by omega) lgo_4 (by omega) (by rw [r_dry, if_pos c_37] at hK; exact hK)
    exact L11 nl w nl 0 _ rfl (Nat.le_refl _) hp1 hp0 (by omega) hK
def T_X3_hourPasses : List Value → Hp → (Res → Hp → Prop) → Prop := fun av g K => ∃ (A : Nat → Nat) (S : Nat → Int32) (F : Nat → Nat → Int32) (w : Nat → Int32) (g0 : Hp) (h nl : Nat), mok A ∧ g = mdl A S F w g0 ∧ av = [.ref (A 0)] ∧ w 0 = nI h ∧ h < 2 ^ 30 ∧ w 4 = nI nl ∧ nl ≤ 20 ∧ K (.inl (some (.int (nI (r_hd w))))) (mdl A S F (r_hr w) g0)
theorem C_X3_hourPasses {l : Launch} {s0 : State} (h0 : St0 l s0) : Ctr l s0 yX3_hourPasses (ws_ yX3_hourPasses cX3_hourPasses 2 (Option.some Jvm.ClassFile.FieldType.int)) 4 0 0 T_X3_hourPasses := by
  refine ctr_of h0 (by decide) ?_ ?_
  · rintro av g K ⟨A, S, F, w, g0, h, nl, hA, rfl, rfl, hp0, hp1, hp2, hp3, hK⟩
    exact Nat.le_of_ble_eq_true rfl
  · rintro Z X av g K G ⟨A, S, F, w, g0, h, nl, hA, rfl, rfl, hp0, hp1, hp2, hp3, hK⟩
    show Z 0 [some (.ref (A 0)), none] [] _ _ _
    have e0 : hN w = h := by unfold hN; rw [hp0]; exact nI_clamp (by omega)
    have e4 : lNn w = nl := by unfold lNn; rw [hp2]; exact nI_clamp (by omega)
    refine z_aload_n G dX3_hourPasses_0 rfl rfl rfl ?_
    refine z_aload_n G dX3_hourPasses_1 rfl rfl rfl ?_
    refine z_V G dX3_hourPasses_2 rfl m_X3_hourOfDay q2787 (C_X3_hourOfDay h0) (by decide) (As := []) rfl rfl (Nat.le_of_ble_eq_true rfl) (Nat.zero_le _) (Nat.zero_le _) (mhas hA) (⟨_, _, _, _, _, _, hA, rfl, rfl, (by first | assumption | decide | omega), (by first | assumption | decide | omega), ?_⟩)
    refine z_V G dX3_hourPasses_5 rfl m_X3_isDrummed q2791 (C_X3_isDrummed h0) (by decide) (As := [_]) rfl rfl (Nat.le_of_ble_eq_true rfl) (Nat.zero_le _) (Nat.zero_le _) (mhas hA) (⟨_, _, _, _, _, _, hA, rfl, rfl, ?_⟩)
    refine z_if_ne G dX3_hourPasses_8 rfl (tgt := 15) (by decide) (fun c_8 => ?_) (fun c_8 => ?_)
    · have c_8b := bI_t c_8
      have hb : r_hb w = w := by unfold r_hb; rw [e0, if_pos c_8b]
      refine z_aload_n G dX3_hourPasses_15 rfl rfl rfl ?_
      refine z_V G dX3_hourPasses_16 rfl m_X3_lumpsDry q2949 (C_X3_lumpsDry h0) (by decide) (As := []) rfl rfl (Nat.le_of_ble_eq_true rfl) (Nat.zero_le _) (Nat.zero_le _) (mhas hA) (⟨_, _, _, _, _, _, hA, rfl, rfl, (by first | assumption | decide | omega), (by first | assumption | decide | omega), ?_⟩)
      refine z_istore_n G dX3_hourPasses_19 rfl (i := 1) rfl (by decide) (zcat_s rfl) (show Z 20 [_, _] _ _ _ _ from ?_)
      refine z_aload_n G dX3_hourPasses_20 rfl rfl rfl ?_
      refine mz_get G hA dX3_hourPasses_21 rfl (j := 7) fl_X3_16_2 rfl ?_
      refine z_iconst G dX3_hourPasses_24 rfl (v := 0) (by decide) ?_
      refine z_dup2_11 G dX3_hourPasses_25 rfl rfl rfl ?_
      refine mz_wld G hA dX3_hourPasses_26 rfl (0) rfl (by decide) ?_
      refine z_iconst G dX3_hourPasses_27 rfl (v := 1) (by decide) ?_
      refine z_iadd G dX3_hourPasses_28 rfl ?_
      refine mz_wst G hA dX3_hourPasses_29 rfl (0) rfl (by decide) ?_
      refine z_iload_n G dX3_hourPasses_30 rfl rfl rfl ?_
      exact z_iret G dX3_hourPasses_31 rfl rfl (by rw [r_hr, r_hd, hb, e4] at hK; exact hK)
    · have c_8b := bI_f c_8
      have hb : r_hb w = r_brk w (r_prs w 7) := by unfold r_hb; rw [e0, c_8b]; rfl
      have h4 : r_brk w (r_prs w 7) 4 = nI nl := (brk_lo (by decide) _ _).trans hp2
      refine z_aload_n G dX3_hourPasses_11 rfl rfl rfl ?_
      refine z_V G dX3_hourPasses_12 rfl m_X3_piecesBreak q2941 (C_X3_piecesBreak h0) (by decide) (As := []) rfl rfl (Nat.le_of_ble_eq_true rfl) (Nat.zero_le _) (Nat.zero_le _) (mhas hA) (⟨_, _, _, _, _, hA, rfl, rfl, ?_⟩)
      refine z_aload_n G dX3_hourPasses_15 rfl rfl rfl ?_
      refine z_V G dX3_hourPasses_16 rfl m_X3_lumpsDry q2949 (C_X3_lumpsDry h0) (by decide) (As := []) rfl rfl (Nat.le_of_ble_eq_true rfl) (Nat.zero_le _) (Nat.zero_le _) (mhas hA) (⟨_, _, _, _, _, _, hA, rfl, rfl, (by first | assumption | decide | omega), (by first | assumption | decide | omega), ?_⟩)
      refine z_istore_n G dX3_hourPasses_19 rfl (i := 1) rfl (by decide) (zcat_s rfl) (show Z 20 [_, _] _ _ _ _ from ?_)
      refine z_aload_n G dX3_hourPasses_20 rfl rfl rfl ?_
      refine mz_get G hA dX3_hourPasses_21 rfl (j := 7) fl_X3_16_2 rfl ?_
      refine z_iconst G dX3_hourPasses_24 rfl (v := 0) (by decide) ?_
      refine z_dup2_11 G dX3_hourPasses_25 rfl rfl rfl ?_
      refine mz_wld G hA dX3_hourPasses_26 rfl (0) rfl (by decide) ?_
      refine z_iconst G dX3_hourPasses_27 rfl (v := 1) (by decide) ?_
      refine z_iadd G dX3_hourPasses_28 rfl ?_
      refine mz_wst G hA dX3_hourPasses_29 rfl (0) rfl (by decide) ?_
      refine z_iload_n G dX3_hourPasses_30 rfl rfl rfl ?_
      exact z_iret G dX3_hourPasses_31 rfl rfl (by rw [r_hr, r_hd, hb, e4] at hK; exact hK)
def T_X3_passes : List Value → Hp → (Res → Hp → Prop) → Prop := fun av g K => ∃ (A : Nat → Nat) (S : Nat → Int32) (F : Nat → Nat → Int32) (w : Nat → Int32) (g0 : Hp) (m h nl : Nat), mok A ∧ g = mdl A S F w g0 ∧ av = [.ref (A 0), .int (nI m)] ∧ w 0 = nI h ∧ h + m < 2 ^ 30 ∧ w 4 = nI nl ∧ nl ≤ 20 ∧ m ≤ 99 ∧ K (.inl (some (.int (nI (r_pad w m))))) (mdl A S F (r_pas w m) g0)
theorem C_X3_passes {l : Launch} {s0 : State} (h0 : St0 l s0) : Ctr l s0 yX3_passes (ws_ yX3_passes cX3_passes 4 (Option.some Jvm.ClassFile.FieldType.int)) 5 0 0 T_X3_passes := by
  refine ctr_of h0 (by decide) ?_ ?_
  · rintro av g K ⟨A, S, F, w, g0, m, h, nl, hA, rfl, rfl, hp0, hp1, hp2, hp3, hp4, hK⟩
    exact Nat.le_of_ble_eq_true rfl
  · rintro Z X av g K G ⟨A, S, F, w, g0, m, h, nl, hA, rfl, rfl, hp0, hp1, hp2, hp3, hp4, hK⟩
    show Z 0 [some (.ref (A 0)), some (.int (nI m)), none, none] [] _ _ _
    refine z_iconst G dX3_passes_0 rfl (v := 0) (by decide) ?_
    refine z_istore_n G dX3_passes_1 rfl (i := 2) rfl (by decide) (zcat_s rfl) (show Z 2 [_, _, _, _] _ _ _ _ from ?_)
    refine z_iconst G dX3_passes_2 rfl (v := 0) (by decide) ?_
    refine z_istore_n G dX3_passes_3 rfl (i := 3) rfl (by decide) (zcat_s rfl) (show Z 4 [_, _, _, _] _ _ _ _ from ?_)
    have L4 : ∀ (n i d : Nat) (w' : Nat → Int32), i + n = m → w' = r_pas w i → d = r_pad w i → Z 4 [some (.ref (A 0)), some (.int (nI m)), some (.int (nI d)), some (.int (nI i))] [] (mdl A S F w' g0) 0 0 := by
      intro n
      induction n with
      | zero =>
        intro i d w' hi hw hd
        refine z_iload_n G dX3_passes_4 rfl rfl rfl ?_
        refine z_iload_n G dX3_passes_5 rfl rfl rfl ?_
        refine z_icmp_ge G dX3_passes_6 rfl (tgt := 22) (by decide) (fun c_6 => ?_) (fun c_6 => ?_)
        · have c_6n := Int32.not_lt.mpr c_6
          have c_6N := (nI_leI (a := m) (b := i) (by omega) (by omega)).mp c_6
          obtain rfl : i = m := by omega
          subst hw hd
          refine z_iload_n G dX3_passes_22 rfl rfl rfl ?_
          exact z_iret G dX3_passes_23 rfl rfl (hK)
        · exact absurd ((not_congr <| nI_leI (a := m) (b := i) (by omega) (by omega)).mp c_6) (by omega)
      | succ n ih =>
        intro i d w' hi hw hd
        obtain ⟨q1, nl', q2, q3⟩ := pas_ok hp0 hp2 hp3 i
        rw [← hw] at q1 q3
        refine z_iload_n G dX3_passes_4 rfl rfl rfl ?_
        refine z_iload_n G dX3_passes_5 rfl rfl rfl ?_
        refine z_icmp_ge G dX3_passes_6 rfl (tgt := 22) (by decide) (fun c_6 => ?_) (fun c_6 => ?_)
        · exact absurd ((nI_leI (a := m) (b := i) (by omega) (by omega)).mp c_6) (by omega)
        · have c_6n := Int32.not_le.mp c_6
          have c_6N := (not_congr <| nI_leI (a := m) (b := i) (by omega) (by omega)).mp c_6
          refine z_iload_n G dX3_passes_9 rfl rfl rfl ?_
          refine z_aload_n G dX3_passes_10 rfl rfl rfl ?_
          refine z_V G dX3_passes_11 rfl m_X3_hourPasses q2937 (C_X3_hourPasses h0) (by decide) (As := []) rfl rfl (Nat.le_of_ble_eq_true rfl) (Nat.zero_le _) (Nat.zero_le _) (mhas hA) (⟨_, _, _, _, _, h + i, nl', hA, rfl, rfl, q1, by omega, q3, q2, ?_⟩)
          refine z_iaddN G (d) ((r_hd w')) rfl rfl dX3_passes_14 rfl ?_
          refine z_istore_n G dX3_passes_15 rfl (i := 2) rfl (by decide) (zcat_s rfl) (show Z 16 [_, _, _, _] _ _ _ _ from ?_)
          refine z_iinc G dX3_passes_16 rfl rfl (nI_1 _) (by decide) (zcat_s rfl) (show Z 19 [_, _, _, _] _ _ _ _ from ?_)
          refine z_goto G dX3_passes_19 (tgt := 4) (by decide) ?_
          exact ih (i + 1) _ _ (by omega) (by rw [hw]; rfl) (by rw [hd, hw]; rfl)
    exact L4 m 0 0 w (by omega) rfl rfl
def T_X3_notHour : List Value → Hp → (Res → Hp → Prop) → Prop := fun av g K => ∃ (A : Nat → Nat) (S : Nat → Int32) (F : Nat → Nat → Int32) (w : Nat → Int32) (g0 : Hp) (v : Int32), mok A ∧ g = mdl A S F w g0 ∧ av = [.ref (A 0), .int v] ∧ K (.inl (some (.int (nrv (o_hour v))))) (mdl A (nS S (o_hour v)) F w g0)
theorem C_X3_notHour {l : Launch} {s0 : State} (h0 : St0 l s0) : Ctr l s0 yX3_notHour (ws_ yX3_notHour cX3_notHour 2 (Option.some Jvm.ClassFile.FieldType.int)) 2 0 0 T_X3_notHour := by
  refine ctr_of h0 (by decide) ?_ ?_
  · rintro av g K ⟨A, S, F, w, g0, v, hA, rfl, rfl, hK⟩
    exact Nat.le_of_ble_eq_true rfl
  · rintro Z X av g K G ⟨A, S, F, w, g0, v, hA, rfl, rfl, hK⟩
    show Z 0 [some (.ref (A 0)), some (.int v)] [] _ _ _
    refine z_iload_n G dX3_notHour_0 rfl rfl rfl ?_
    refine z_iconst G dX3_notHour_1 rfl (v := 1) (by decide) ?_
    refine z_bipush G dX3_notHour_2 rfl (v := 48) (by decide) ?_
    refine z_S G dX3_notHour_4 rfl m_X3_isBetween q2668 (C_X3_isBetween h0) (by decide) (As := [_, _, _]) rfl rfl (Nat.le_of_ble_eq_true rfl) (Nat.zero_le _) (Nat.zero_le _) (⟨_, _, _, rfl, ?_⟩)
    refine z_if_eq G dX3_notHour_7 rfl (tgt := 14) (by decide) (fun c_7 => ?_) (fun c_7 => ?_)
    · have c_7b := bI_f c_7
      refine z_aload_n G dX3_notHour_14 rfl rfl rfl ?_
      refine z_iconst G dX3_notHour_15 rfl (v := 3) (by decide) ?_
      refine z_iload_n G dX3_notHour_16 rfl rfl rfl ?_
      refine z_V G dX3_notHour_17 rfl m_X3_isNot q2671 (C_X3_isNot h0) (by decide) (As := [_, _]) rfl rfl (Nat.le_of_ble_eq_true rfl) (Nat.zero_le _) (Nat.zero_le _) (mhas hA) (⟨_, _, _, _, _, _, _, hA, rfl, rfl, ?_⟩)
      exact z_iret G dX3_notHour_20 rfl rfl (by simpa [o_hour, isP, c_7, c_7b, nrv, nS] using hK)
    · have c_7b := bI_t c_7
      refine z_iconst G dX3_notHour_10 rfl (v := 0) (by decide) ?_
      refine z_goto G dX3_notHour_11 (tgt := 20) (by decide) ?_
      exact z_iret G dX3_notHour_20 rfl rfl (by simpa [o_hour, isP, c_7, c_7b, nrv, nS] using hK)
def T_X3_hour : List Value → Hp → (Res → Hp → Prop) → Prop := fun av g K => ∃ (A : Nat → Nat) (S : Nat → Int32) (F : Nat → Nat → Int32) (w : Nat → Int32) (g0 : Hp) (c f : Nat) (v : Int32) (m h nl : Nat), mok A ∧ g = mdl A S F w g0 ∧ av = [.ref (A 0), .int v] ∧ S 11 = nI c ∧ c ≤ 8 ∧ S 12 = nI f ∧ f < 8 ∧ w 0 = nI h ∧ h + m < 2 ^ 30 ∧ w 4 = nI nl ∧ nl ≤ 20 ∧ m ≤ 99 ∧ (o_hour v = none → v = nI m) ∧ (∀ y, o_hour v = some y → K (.inl (some (.int 0))) (mdl A (upd (nS (upd S 0 0) (some y)) 0 1) (m_ref (nS (upd S 0 0) (some y)) F) w g0)) ∧ (o_hour v = none → K (.inl (some (.int (nI (r_pad w m))))) (mdl A (m_kmS (upd S 0 0) c f) (m_rem F w c f upA) (r_pas w m) g0))
theorem C_X3_hour {l : Launch} {s0 : State} (h0 : St0 l s0) : Ctr l s0 yX3_hour (ws_ yX3_hour cX3_hour 2 (Option.some Jvm.ClassFile.FieldType.int)) 6 0 0 T_X3_hour := by
  refine ctr_of h0 (by decide) ?_ ?_
  · rintro av g K ⟨A, S, F, w, g0, c, f, v, m, h, nl, hA, rfl, rfl, hc0, hc1, hc2, hc3, hp0, hp1, hp2, hp3, hp4, hp5, hR, hK⟩
    exact Nat.le_of_ble_eq_true rfl
  · rintro Z X av g K G ⟨A, S, F, w, g0, c, f, v, m, h, nl, hA, rfl, rfl, hc0, hc1, hc2, hc3, hp0, hp1, hp2, hp3, hp4, hp5, hR, hK⟩
    show Z 0 [some (.ref (A 0)), some (.int v)] [] _ _ _
    refine z_aload_n G dX3_hour_0 rfl rfl rfl ?_
    refine z_iconst G dX3_hour_1 rfl (v := 0) (by decide) ?_
    refine mz_put G hA dX3_hour_2 rfl (j := 0) fl_X3_42_2p rfl rfl (by decide) rfl ?_
    refine z_aload_n G dX3_hour_5 rfl rfl rfl ?_
    refine z_iload_n G dX3_hour_6 rfl rfl rfl ?_
    refine z_V G dX3_hour_7 rfl m_X3_notHour q2929 (C_X3_notHour h0) (by decide) (As := [_]) rfl rfl (Nat.le_of_ble_eq_true rfl) (Nat.zero_le _) (Nat.zero_le _) (mhas hA) (⟨_, _, _, _, _, _, hA, rfl, rfl, ?_⟩)
    refine z_if_eq G dX3_hour_10 rfl (tgt := 18) (by decide) (fun c_10 => ?_) (fun c_10 => ?_)
    · have ho := nrv_0 c_10
      rw [ho]
      have hq := hp5 ho
      subst hq
      refine z_aload_n G dX3_hour_18 rfl rfl rfl ?_
      refine z_V G dX3_hour_19 rfl m_X3_remembers q2687 (C_X3_remembers h0) (by decide) (As := []) rfl rfl (Nat.le_of_ble_eq_true rfl) (Nat.zero_le _) (Nat.zero_le _) (mhas hA) (⟨_, _, _, _, _, _, _, hA, rfl, rfl, (by first | assumption | decide | omega), (by first | assumption | decide | omega), (by first | assumption | decide | omega), (by first | assumption | decide | omega), ?_⟩)
      refine z_aload_n G dX3_hour_22 rfl rfl rfl ?_
      refine z_iload_n G dX3_hour_23 rfl rfl rfl ?_
      refine z_V G dX3_hour_24 rfl m_X3_passes q2933 (C_X3_passes h0) (by decide) (As := [_]) rfl rfl (Nat.le_of_ble_eq_true rfl) (Nat.zero_le _) (Nat.zero_le _) (mhas hA) (⟨_, _, _, _, _, _, _, _, hA, rfl, rfl, (by first | assumption | decide | omega), (by first | assumption | decide | omega), (by first | assumption | decide | omega), (by first | assumption | decide | omega), (by first | assumption | decide | omega), ?_⟩)
      exact z_iret G dX3_hour_27 rfl rfl (hK ho)
    · obtain ⟨y, hy⟩ := nrv_n c_10
      rw [hy]
      refine z_aload_n G dX3_hour_13 rfl rfl rfl ?_
      refine z_V G dX3_hour_14 rfl m_X3_refuses q2675 (C_X3_refuses h0) (by decide) (As := []) rfl rfl (Nat.le_of_ble_eq_true rfl) (Nat.zero_le _) (Nat.zero_le _) (mhas hA) (⟨_, _, _, _, _, hA, rfl, rfl, ?_⟩)
      exact z_iret G dX3_hour_17 rfl rfl (hR y hy)
