/-! THE REFERENCE: counting, rows put by, the bench -/
def T_X3_parrots : List Value → Hp → (Res → Hp → Prop) → Prop := fun av g K => ∃ (A : Nat → Nat) (S : Nat → Int32) (F : Nat → Nat → Int32) (w : Nat → Int32) (g0 : Hp) , mok A ∧ g = mdl A S F w g0 ∧ av = [.ref (A 0)] ∧ K (.inl (some (.int (nI (r_par w 8))))) g
theorem C_X3_parrots {l : Launch} {s0 : State} (h0 : St0 l s0) : Ctr l s0 yX3_parrots (ws_ yX3_parrots cX3_parrots 3 (Option.some Jvm.ClassFile.FieldType.int)) 2 0 0 T_X3_parrots := by
  refine ctr_of h0 (by decide) ?_ ?_
  · rintro av g K ⟨A, S, F, w, g0, hA, rfl, rfl, hK⟩
    exact Nat.le_of_ble_eq_true rfl
  · rintro Z X av g K G ⟨A, S, F, w, g0, hA, rfl, rfl, hK⟩
    show Z 0 [some (.ref (A 0)), none, none] [] _ _ _
    refine z_iconst G dX3_parrots_0 rfl (v := 0) (by decide) ?_
    refine z_istore_n G dX3_parrots_1 rfl (i := 1) rfl (by decide) (zcat_s rfl) (show Z 2 [_, _, _] _ _ _ _ from ?_)
    refine z_iconst G dX3_parrots_2 rfl (v := 0) (by decide) ?_
    refine z_istore_n G dX3_parrots_3 rfl (i := 2) rfl (by decide) (zcat_s rfl) (show Z 4 [_, _, _] _ _ _ _ from ?_)
    have L4 : ∀ (n i v : Nat), i + n = 8 → v = r_par w i → Z 4 [some (.ref (A 0)), some (.int (nI v)), some (.int (nI i))] [] (mdl A S F w g0) 0 0 := by
      intro n
      induction n with
      | zero =>
        intro i v hi hv
        refine z_iload_n G dX3_parrots_4 rfl rfl rfl ?_
        refine z_bipush G dX3_parrots_5 rfl (v := 8) (by decide) ?_
        refine z_icmp_ge G dX3_parrots_7 rfl (tgt := 32) (by decide) (fun c_7 => ?_) (fun c_7 => ?_)
        · have c_7n := Int32.not_lt.mpr c_7
          have c_7N := (nI_leI (a := 8) (b := i) (by omega) (by omega)).mp c_7
          obtain rfl : i = 8 := by omega
          subst hv
          refine z_iload_n G dX3_parrots_32 rfl rfl rfl ?_
          exact z_iret G dX3_parrots_33 rfl rfl (hK)
        · exact absurd ((not_congr <| nI_leI (a := 8) (b := i) (by omega) (by omega)).mp c_7) (by omega)
      | succ n ih =>
        intro i v hi hv
        refine z_iload_n G dX3_parrots_4 rfl rfl rfl ?_
        refine z_bipush G dX3_parrots_5 rfl (v := 8) (by decide) ?_
        refine z_icmp_ge G dX3_parrots_7 rfl (tgt := 32) (by decide) (fun c_7 => ?_) (fun c_7 => ?_)
        · exact absurd ((nI_leI (a := 8) (b := i) (by omega) (by omega)).mp c_7) (by omega)
        · have c_7n := Int32.not_le.mp c_7
          have c_7N := (not_congr <| nI_leI (a := 8) (b := i) (by omega) (by omega)).mp c_7
          refine z_iload_n G dX3_parrots_10 rfl rfl rfl ?_
          refine z_aload_n G dX3_parrots_11 rfl rfl rfl ?_
          refine z_iload_n G dX3_parrots_12 rfl rfl rfl ?_
          refine z_V G dX3_parrots_13 rfl m_X3_isTaken q2901 (C_X3_isTaken h0) (by decide) (As := [_]) rfl rfl (Nat.le_of_ble_eq_true rfl) (Nat.zero_le _) (Nat.zero_le _) (mhas hA) (⟨_, _, _, _, _, _, hA, rfl, rfl, ?_⟩)
          refine z_if_eq G dX3_parrots_16 rfl (tgt := 23) (by decide) (fun c_16 => ?_) (fun c_16 => ?_)
          · have c_16b := bI_f c_16
            refine z_iconst G dX3_parrots_23 rfl (v := 0) (by decide) ?_
            refine z_iaddN G (v) (0) rfl rfl dX3_parrots_24 rfl ?_
            refine z_istore_n G dX3_parrots_25 rfl (i := 1) rfl (by decide) (zcat_s rfl) (show Z 26 [_, _, _] _ _ _ _ from ?_)
            refine z_iinc G dX3_parrots_26 rfl rfl (nI_1 _) (by decide) (zcat_s rfl) (show Z 29 [_, _, _] _ _ _ _ from ?_)
            refine z_goto G dX3_parrots_29 (tgt := 4) (by decide) ?_
            exact ih (i + 1) _ (by omega) (by rw [hv]; simp [r_par, c_7, c_7n, c_7N, c_16, c_16b])
          · have c_16b := bI_t c_16
            refine z_iconst G dX3_parrots_19 rfl (v := 1) (by decide) ?_
            refine z_goto G dX3_parrots_20 (tgt := 24) (by decide) ?_
            refine z_iaddN G (v) (1) rfl rfl dX3_parrots_24 rfl ?_
            refine z_istore_n G dX3_parrots_25 rfl (i := 1) rfl (by decide) (zcat_s rfl) (show Z 26 [_, _, _] _ _ _ _ from ?_)
            refine z_iinc G dX3_parrots_26 rfl rfl (nI_1 _) (by decide) (zcat_s rfl) (show Z 29 [_, _, _] _ _ _ _ from ?_)
            refine z_goto G dX3_parrots_29 (tgt := 4) (by decide) ?_
            exact ih (i + 1) _ (by omega) (by rw [hv]; simp [r_par, c_7, c_7n, c_7N, c_16, c_16b])
    exact L4 8 0 0 rfl rfl
def T_X3_piecesNow : List Value → Hp → (Res → Hp → Prop) → Prop := fun av g K => ∃ (A : Nat → Nat) (S : Nat → Int32) (F : Nat → Nat → Int32) (w : Nat → Int32) (g0 : Hp) , mok A ∧ g = mdl A S F w g0 ∧ av = [.ref (A 0)] ∧ K (.inl (some (.int (r_pcs w 6)))) g
theorem C_X3_piecesNow {l : Launch} {s0 : State} (h0 : St0 l s0) : Ctr l s0 yX3_piecesNow (ws_ yX3_piecesNow cX3_piecesNow 3 (Option.some Jvm.ClassFile.FieldType.int)) 1 0 0 T_X3_piecesNow := by
  refine ctr_of h0 (by decide) ?_ ?_
  · rintro av g K ⟨A, S, F, w, g0, hA, rfl, rfl, hK⟩
    exact Nat.le_of_ble_eq_true rfl
  · rintro Z X av g K G ⟨A, S, F, w, g0, hA, rfl, rfl, hK⟩
    show Z 0 [some (.ref (A 0)), none, none] [] _ _ _
    refine z_iconst G dX3_piecesNow_0 rfl (v := 0) (by decide) ?_
    refine z_istore_n G dX3_piecesNow_1 rfl (i := 1) rfl (by decide) (zcat_s rfl) (show Z 2 [_, _, _] _ _ _ _ from ?_)
    refine z_iconst G dX3_piecesNow_2 rfl (v := 1) (by decide) ?_
    refine z_istore_n G dX3_piecesNow_3 rfl (i := 2) rfl (by decide) (zcat_s rfl) (show Z 4 [_, _, _] _ _ _ _ from ?_)
    have L4 : ∀ (n i : Nat) (v : Int32), i + n = 7 → 1 ≤ i → v = r_pcs w (i - 1) → Z 4 [some (.ref (A 0)), some (.int v), some (.int (nI i))] [] (mdl A S F w g0) 0 0 := by
      intro n
      induction n with
      | zero =>
        intro i v hi h1 hv
        refine z_iload_n G dX3_piecesNow_4 rfl rfl rfl ?_
        refine z_bipush G dX3_piecesNow_5 rfl (v := 6) (by decide) ?_
        refine z_icmp_gt G dX3_piecesNow_7 rfl (tgt := 28) (by decide) (fun c_7 => ?_) (fun c_7 => ?_)
        · have c_7n := Int32.not_le.mpr c_7
          have c_7N := (nI_ltI (a := 6) (b := i) (by omega) (by omega)).mp c_7
          obtain rfl : i = 7 := by omega
          subst hv
          refine z_iload_n G dX3_piecesNow_28 rfl rfl rfl ?_
          exact z_iret G dX3_piecesNow_29 rfl rfl (hK)
        · exact absurd ((not_congr <| nI_ltI (a := 6) (b := i) (by omega) (by omega)).mp c_7) (by omega)
      | succ n ih =>
        intro i v hi h1 hv
        refine z_iload_n G dX3_piecesNow_4 rfl rfl rfl ?_
        refine z_bipush G dX3_piecesNow_5 rfl (v := 6) (by decide) ?_
        refine z_icmp_gt G dX3_piecesNow_7 rfl (tgt := 28) (by decide) (fun c_7 => ?_) (fun c_7 => ?_)
        · exact absurd ((nI_ltI (a := 6) (b := i) (by omega) (by omega)).mp c_7) (by omega)
        · have c_7n := Int32.not_lt.mp c_7
          have c_7N := (not_congr <| nI_ltI (a := 6) (b := i) (by omega) (by omega)).mp c_7
          refine z_iload_n G dX3_piecesNow_10 rfl rfl rfl ?_
          refine z_aload_n G dX3_piecesNow_11 rfl rfl rfl ?_
          refine mz_get G hA dX3_piecesNow_12 rfl (j := 7) fl_X3_16_2 rfl ?_
          refine z_bipush G dX3_piecesNow_15 rfl (v := 42) (by decide) ?_
          refine z_iload_n G dX3_piecesNow_17 rfl rfl rfl ?_
          refine z_iaddN G (42) (i) rfl rfl dX3_piecesNow_18 rfl ?_
          refine mz_wld G hA dX3_piecesNow_19 rfl (42 + i) rfl (by omega) ?_
          refine z_iadd G dX3_piecesNow_20 rfl ?_
          refine z_istore_n G dX3_piecesNow_21 rfl (i := 1) rfl (by decide) (zcat_s rfl) (show Z 22 [_, _, _] _ _ _ _ from ?_)
          refine z_iinc G dX3_piecesNow_22 rfl rfl (nI_1 _) (by decide) (zcat_s rfl) (show Z 25 [_, _, _] _ _ _ _ from ?_)
          refine z_goto G dX3_piecesNow_25 (tgt := 4) (by decide) ?_
          exact ih (i + 1) _ (by omega) (by omega) (by obtain ⟨j, rfl⟩ : ∃ j, i = j + 1 := ⟨i - 1, by omega⟩; rw [hv]; rfl)
    exact L4 6 1 0 rfl (by decide) rfl
def T_X3_longestNow : List Value → Hp → (Res → Hp → Prop) → Prop := fun av g K => ∃ (A : Nat → Nat) (S : Nat → Int32) (F : Nat → Nat → Int32) (w : Nat → Int32) (g0 : Hp) , mok A ∧ g = mdl A S F w g0 ∧ av = [.ref (A 0)] ∧ K (.inl (some (.int (nI (r_lng w 6))))) g
theorem C_X3_longestNow {l : Launch} {s0 : State} (h0 : St0 l s0) : Ctr l s0 yX3_longestNow (ws_ yX3_longestNow cX3_longestNow 3 (Option.some Jvm.ClassFile.FieldType.int)) 1 0 0 T_X3_longestNow := by
  refine ctr_of h0 (by decide) ?_ ?_
  · rintro av g K ⟨A, S, F, w, g0, hA, rfl, rfl, hK⟩
    exact Nat.le_of_ble_eq_true rfl
  · rintro Z X av g K G ⟨A, S, F, w, g0, hA, rfl, rfl, hK⟩
    show Z 0 [some (.ref (A 0)), none, none] [] _ _ _
    refine z_iconst G dX3_longestNow_0 rfl (v := 0) (by decide) ?_
    refine z_istore_n G dX3_longestNow_1 rfl (i := 1) rfl (by decide) (zcat_s rfl) (show Z 2 [_, _, _] _ _ _ _ from ?_)
    refine z_iconst G dX3_longestNow_2 rfl (v := 1) (by decide) ?_
    refine z_istore_n G dX3_longestNow_3 rfl (i := 2) rfl (by decide) (zcat_s rfl) (show Z 4 [_, _, _] _ _ _ _ from ?_)
    have L4 : ∀ (n i v : Nat), i + n = 7 → 1 ≤ i → v = r_lng w (i - 1) → Z 4 [some (.ref (A 0)), some (.int (nI v)), some (.int (nI i))] [] (mdl A S F w g0) 0 0 := by
      intro n
      induction n with
      | zero =>
        intro i v hi h1 hv
        refine z_iload_n G dX3_longestNow_4 rfl rfl rfl ?_
        refine z_bipush G dX3_longestNow_5 rfl (v := 6) (by decide) ?_
        refine z_icmp_gt G dX3_longestNow_7 rfl (tgt := 34) (by decide) (fun c_7 => ?_) (fun c_7 => ?_)
        · have c_7n := Int32.not_le.mpr c_7
          have c_7N := (nI_ltI (a := 6) (b := i) (by omega) (by omega)).mp c_7
          obtain rfl : i = 7 := by omega
          subst hv
          refine z_iload_n G dX3_longestNow_34 rfl rfl rfl ?_
          exact z_iret G dX3_longestNow_35 rfl rfl (hK)
        · exact absurd ((not_congr <| nI_ltI (a := 6) (b := i) (by omega) (by omega)).mp c_7) (by omega)
      | succ n ih =>
        intro i v hi h1 hv
        obtain ⟨j, rfl⟩ : ∃ j, i = j + 1 := ⟨i - 1, by omega⟩
        refine z_iload_n G dX3_longestNow_4 rfl rfl rfl ?_
        refine z_bipush G dX3_longestNow_5 rfl (v := 6) (by decide) ?_
        refine z_icmp_gt G dX3_longestNow_7 rfl (tgt := 34) (by decide) (fun c_7 => ?_) (fun c_7 => ?_)
        · exact absurd ((nI_ltI (a := 6) (b := (j + 1)) (by omega) (by omega)).mp c_7) (by omega)
        · have c_7n := Int32.not_lt.mp c_7
          have c_7N := (not_congr <| nI_ltI (a := 6) (b := (j + 1)) (by omega) (by omega)).mp c_7
          refine z_aload_n G dX3_longestNow_10 rfl rfl rfl ?_
          refine mz_get G hA dX3_longestNow_11 rfl (j := 7) fl_X3_16_2 rfl ?_
          refine z_bipush G dX3_longestNow_14 rfl (v := 42) (by decide) ?_
          refine z_iload_n G dX3_longestNow_16 rfl rfl rfl ?_
          refine z_iaddN G (42) ((j + 1)) rfl rfl dX3_longestNow_17 rfl ?_
          refine mz_wld G hA dX3_longestNow_18 rfl (42 + ((j + 1))) rfl (by omega) ?_
          refine z_if_le G dX3_longestNow_19 rfl (tgt := 26) (by decide) (fun c_19 => ?_) (fun c_19 => ?_)
          · have c_19n := Int32.not_lt.mpr c_19
            refine z_iload_n G dX3_longestNow_26 rfl rfl rfl ?_
            refine z_istore_n G dX3_longestNow_27 rfl (i := 1) rfl (by decide) (zcat_s rfl) (show Z 28 [_, _, _] _ _ _ _ from ?_)
            refine z_iinc G dX3_longestNow_28 rfl rfl (nI_1 _) (by decide) (zcat_s rfl) (show Z 31 [_, _, _] _ _ _ _ from ?_)
            refine z_goto G dX3_longestNow_31 (tgt := 4) (by decide) ?_
            exact ih (j + 1 + 1) _ (by omega) (by omega) (by first | exact (if_neg c_19).symm | (rw [hv]; exact (if_pos c_19).symm))
          · have c_19n := Int32.not_le.mp c_19
            refine z_iload_n G dX3_longestNow_22 rfl rfl rfl ?_
            refine z_goto G dX3_longestNow_23 (tgt := 27) (by decide) ?_
            refine z_istore_n G dX3_longestNow_27 rfl (i := 1) rfl (by decide) (zcat_s rfl) (show Z 28 [_, _, _] _ _ _ _ from ?_)
            refine z_iinc G dX3_longestNow_28 rfl rfl (nI_1 _) (by decide) (zcat_s rfl) (show Z 31 [_, _, _] _ _ _ _ from ?_)
            refine z_goto G dX3_longestNow_31 (tgt := 4) (by decide) ?_
            exact ih (j + 1 + 1) _ (by omega) (by omega) (by first | exact (if_neg c_19).symm | (rw [hv]; exact (if_pos c_19).symm))
    exact L4 6 1 0 rfl (by decide) rfl
def T_X3_thinks : List Value → Hp → (Res → Hp → Prop) → Prop := fun av g K => ∃ (A : Nat → Nat) (S : Nat → Int32) (F : Nat → Nat → Int32) (w : Nat → Int32) (g0 : Hp) , mok A ∧ g = mdl A S F w g0 ∧ av = [.ref (A 0)] ∧ K (.inl none) (mdl A S (upA F 10 (va_cpy w (F 10) 0 0 99)) w g0)
theorem C_X3_thinks {l : Launch} {s0 : State} (h0 : St0 l s0) : Ctr l s0 yX3_thinks (ws_ yX3_thinks cX3_thinks 2 (Option.none : Option Jvm.ClassFile.FieldType)) 1 0 0 T_X3_thinks := by
  refine ctr_of h0 (by decide) ?_ ?_
  · rintro av g K ⟨A, S, F, w, g0, hA, rfl, rfl, hK⟩
    exact Nat.le_of_ble_eq_true rfl
  · rintro Z X av g K G ⟨A, S, F, w, g0, hA, rfl, rfl, hK⟩
    show Z 0 [some (.ref (A 0)), none] [] _ _ _
    refine z_iconst G dX3_thinks_0 rfl (v := 0) (by decide) ?_
    refine z_istore_n G dX3_thinks_1 rfl (i := 1) rfl (by decide) (zcat_s rfl) (show Z 2 [_, _] _ _ _ _ from ?_)
    have L2 : ∀ (n i : Nat) (F' : Nat → Nat → Int32), i + n = 99 → F' = upA F 10 (va_cpy w (F 10) 0 0 i) → Z 2 [some (.ref (A 0)), some (.int (nI i))] [] (mdl A S F' w g0) 0 0 := by
      intro n
      induction n with
      | zero =>
        intro i F' hi hF
        refine z_iload_n G dX3_thinks_2 rfl rfl rfl ?_
        refine z_bipush G dX3_thinks_3 rfl (v := 99) (by decide) ?_
        refine z_icmp_ge G dX3_thinks_5 rfl (tgt := 26) (by decide) (fun c_5 => ?_) (fun c_5 => ?_)
        · have c_5n := Int32.not_lt.mpr c_5
          have c_5N := (nI_leI (a := 99) (b := i) (by omega) (by omega)).mp c_5
          obtain rfl : i = 99 := by omega
          subst hF
          exact z_vret G dX3_thinks_26 rfl (hK)
        · exact absurd ((not_congr <| nI_leI (a := 99) (b := i) (by omega) (by omega)).mp c_5) (by omega)
      | succ n ih =>
        intro i F' hi hF
        refine z_iload_n G dX3_thinks_2 rfl rfl rfl ?_
        refine z_bipush G dX3_thinks_3 rfl (v := 99) (by decide) ?_
        refine z_icmp_ge G dX3_thinks_5 rfl (tgt := 26) (by decide) (fun c_5 => ?_) (fun c_5 => ?_)
        · exact absurd ((nI_leI (a := 99) (b := i) (by omega) (by omega)).mp c_5) (by omega)
        · have c_5n := Int32.not_le.mp c_5
          have c_5N := (not_congr <| nI_leI (a := 99) (b := i) (by omega) (by omega)).mp c_5
          refine z_aload_n G dX3_thinks_8 rfl rfl rfl ?_
          refine mz_get G hA dX3_thinks_9 rfl (j := 10) fl_X3_25_2 rfl ?_
          refine z_iload_n G dX3_thinks_12 rfl rfl rfl ?_
          refine z_aload_n G dX3_thinks_13 rfl rfl rfl ?_
          refine mz_get G hA dX3_thinks_14 rfl (j := 7) fl_X3_16_2 rfl ?_
          refine z_iload_n G dX3_thinks_17 rfl rfl rfl ?_
          refine mz_wld G hA dX3_thinks_18 rfl (i) rfl (by omega) ?_
          refine mz_ist G hA 10 (by decide) (by decide) (fun _ => rfl) dX3_thinks_19 rfl (i) rfl (by omega) (by decide) ?_
          refine z_iinc G dX3_thinks_20 rfl rfl (nI_1 _) (by decide) (zcat_s rfl) (show Z 23 [_, _] _ _ _ _ from ?_)
          refine z_goto G dX3_thinks_23 (tgt := 2) (by decide) ?_
          exact ih (i + 1) _ (by omega) (by rw [hF, upA_s, upA_upA, ← cpy_s, Nat.zero_add])
    exact L2 99 0 F rfl (by rw [cpy_0, upA_id])
def T_X3_forgets : List Value → Hp → (Res → Hp → Prop) → Prop := fun av g K => ∃ (A : Nat → Nat) (S : Nat → Int32) (F : Nat → Nat → Int32) (w : Nat → Int32) (g0 : Hp) , mok A ∧ g = mdl A S F w g0 ∧ av = [.ref (A 0)] ∧ K (.inl none) (mdl A S F (va_cpy (F 10) w 0 0 99) g0)
theorem C_X3_forgets {l : Launch} {s0 : State} (h0 : St0 l s0) : Ctr l s0 yX3_forgets (ws_ yX3_forgets cX3_forgets 2 (Option.none : Option Jvm.ClassFile.FieldType)) 1 0 0 T_X3_forgets := by
  refine ctr_of h0 (by decide) ?_ ?_
  · rintro av g K ⟨A, S, F, w, g0, hA, rfl, rfl, hK⟩
    exact Nat.le_of_ble_eq_true rfl
  · rintro Z X av g K G ⟨A, S, F, w, g0, hA, rfl, rfl, hK⟩
    show Z 0 [some (.ref (A 0)), none] [] _ _ _
    refine z_iconst G dX3_forgets_0 rfl (v := 0) (by decide) ?_
    refine z_istore_n G dX3_forgets_1 rfl (i := 1) rfl (by decide) (zcat_s rfl) (show Z 2 [_, _] _ _ _ _ from ?_)
    have L2 : ∀ (n i : Nat) (w' : Nat → Int32), i + n = 99 → w' = va_cpy (F 10) w 0 0 i → Z 2 [some (.ref (A 0)), some (.int (nI i))] [] (mdl A S F w' g0) 0 0 := by
      intro n
      induction n with
      | zero =>
        intro i w' hi hw
        refine z_iload_n G dX3_forgets_2 rfl rfl rfl ?_
        refine z_bipush G dX3_forgets_3 rfl (v := 99) (by decide) ?_
        refine z_icmp_ge G dX3_forgets_5 rfl (tgt := 26) (by decide) (fun c_5 => ?_) (fun c_5 => ?_)
        · have c_5n := Int32.not_lt.mpr c_5
          have c_5N := (nI_leI (a := 99) (b := i) (by omega) (by omega)).mp c_5
          obtain rfl : i = 99 := by omega
          subst hw
          exact z_vret G dX3_forgets_26 rfl (hK)
        · exact absurd ((not_congr <| nI_leI (a := 99) (b := i) (by omega) (by omega)).mp c_5) (by omega)
      | succ n ih =>
        intro i w' hi hw
        refine z_iload_n G dX3_forgets_2 rfl rfl rfl ?_
        refine z_bipush G dX3_forgets_3 rfl (v := 99) (by decide) ?_
        refine z_icmp_ge G dX3_forgets_5 rfl (tgt := 26) (by decide) (fun c_5 => ?_) (fun c_5 => ?_)
        · exact absurd ((nI_leI (a := 99) (b := i) (by omega) (by omega)).mp c_5) (by omega)
        · have c_5n := Int32.not_le.mp c_5
          have c_5N := (not_congr <| nI_leI (a := 99) (b := i) (by omega) (by omega)).mp c_5
          refine z_aload_n G dX3_forgets_8 rfl rfl rfl ?_
          refine mz_get G hA dX3_forgets_9 rfl (j := 7) fl_X3_16_2 rfl ?_
          refine z_iload_n G dX3_forgets_12 rfl rfl rfl ?_
          refine z_aload_n G dX3_forgets_13 rfl rfl rfl ?_
          refine mz_get G hA dX3_forgets_14 rfl (j := 10) fl_X3_25_2 rfl ?_
          refine z_iload_n G dX3_forgets_17 rfl rfl rfl ?_
          refine mz_ild G hA 10 (by decide) rfl dX3_forgets_18 rfl (i) rfl (by omega) (by decide) ?_
          refine mz_wst G hA dX3_forgets_19 rfl (i) rfl (by omega) ?_
          refine z_iinc G dX3_forgets_20 rfl rfl (nI_1 _) (by decide) (zcat_s rfl) (show Z 23 [_, _] _ _ _ _ from ?_)
          refine z_goto G dX3_forgets_23 (tgt := 2) (by decide) ?_
          exact ih (i + 1) _ (by omega) (by rw [hw, ← cpy_s, Nat.zero_add])
    exact L2 99 0 w rfl (by rw [cpy_0])
def T_X3_keepsMind : List Value → Hp → (Res → Hp → Prop) → Prop := fun av g K => ∃ (A : Nat → Nat) (S : Nat → Int32) (F : Nat → Nat → Int32) (w : Nat → Int32) (g0 : Hp) (c f : Nat), mok A ∧ g = mdl A S F w g0 ∧ av = [.ref (A 0)] ∧ S 11 = nI c ∧ c ≤ 8 ∧ S 12 = nI f ∧ f < 8 ∧ K (.inl none) (mdl A (m_kmS S c f) (upA F 8 (va_cpy (F 10) (F 8) 0 (99 * m_kmt c f) 99)) w g0)
theorem C_X3_keepsMind {l : Launch} {s0 : State} (h0 : St0 l s0) : Ctr l s0 yX3_keepsMind (ws_ yX3_keepsMind cX3_keepsMind 3 (Option.none : Option Jvm.ClassFile.FieldType)) 1 0 0 T_X3_keepsMind := by
  refine ctr_of h0 (by decide) ?_ ?_
  · rintro av g K ⟨A, S, F, w, g0, c, f, hA, rfl, rfl, hp0, hp1, hp2, hp3, hK⟩
    exact Nat.le_of_ble_eq_true rfl
  · rintro Z X av g K G ⟨A, S, F, w, g0, c, f, hA, rfl, rfl, hp0, hp1, hp2, hp3, hK⟩
    show Z 0 [some (.ref (A 0)), none, none] [] _ _ _
    refine z_aload_n G dX3_keepsMind_0 rfl rfl rfl ?_
    refine mz_getN G hA dX3_keepsMind_1 rfl (j := 11) fl_X3_65_2 rfl (c) hp0 ?_
    refine z_bipush G dX3_keepsMind_4 rfl (v := 8) (by decide) ?_
    refine z_icmp_ne G dX3_keepsMind_6 rfl (tgt := 32) (by decide) (fun c_6 => ?_) (fun c_6 => ?_)
    · have c_6N := (not_congr <| nI_eq (a := c) (b := 8) (by omega) (by omega)).mp c_6
      refine z_aload_n G dX3_keepsMind_32 rfl rfl rfl ?_
      refine mz_getN G hA dX3_keepsMind_33 rfl (j := 12) fl_X3_68_2 rfl (f) hp2 ?_
      refine z_aload_n G dX3_keepsMind_36 rfl rfl rfl ?_
      refine mz_getN G hA dX3_keepsMind_37 rfl (j := 11) fl_X3_65_2 rfl (c) hp0 ?_
      refine z_iaddN G (f) (c) rfl rfl dX3_keepsMind_40 rfl ?_
      refine z_bipush G dX3_keepsMind_41 rfl (v := 8) (by decide) ?_
      refine z_iremN G (f + c) (8) rfl rfl (by omega) (by omega) (by omega) dX3_keepsMind_43 rfl ?_
      refine z_istore_n G dX3_keepsMind_44 rfl (i := 1) rfl (by decide) (zcat_s rfl) (show Z 45 [_, _, _] _ _ _ _ from ?_)
      refine z_iconst G dX3_keepsMind_45 rfl (v := 0) (by decide) ?_
      refine z_istore_n G dX3_keepsMind_46 rfl (i := 2) rfl (by decide) (zcat_s rfl) (show Z 47 [_, _, _] _ _ _ _ from ?_)
      have L47 : ∀ (n i t : Nat) (S1 : Nat → Int32) (F' : Nat → Nat → Int32), i + n = 99 → t < 8 → F' = upA F 8 (va_cpy (F 10) (F 8) 0 (99 * t) i) → K (.inl none) (mdl A (upd S1 11 (S1 11 + 1)) (upA F 8 (va_cpy (F 10) (F 8) 0 (99 * t) 99)) w g0) → Z 47 [some (.ref (A 0)), some (.int (nI t)), some (.int (nI i))] [] (mdl A S1 F' w g0) 0 0 := by
        intro n
        induction n with
        | zero =>
          intro i t S1 F' hi ht hF hK
          refine z_iload_n G dX3_keepsMind_47 rfl rfl rfl ?_
          refine z_bipush G dX3_keepsMind_48 rfl (v := 99) (by decide) ?_
          refine z_icmp_ge G dX3_keepsMind_50 rfl (tgt := 76) (by decide) (fun c_50 => ?_) (fun c_50 => ?_)
          · have c_50n := Int32.not_lt.mpr c_50
            have c_50N := (nI_leI (a := 99) (b := i) (by omega) (by omega)).mp c_50
            obtain rfl : i = 99 := by omega
            subst hF
            refine z_aload_n G dX3_keepsMind_76 rfl rfl rfl ?_
            refine z_dup G dX3_keepsMind_77 rfl rfl ?_
            refine mz_get G hA dX3_keepsMind_78 rfl (j := 11) fl_X3_65_2 rfl ?_
            refine z_iconst G dX3_keepsMind_81 rfl (v := 1) (by decide) ?_
            refine z_iadd G dX3_keepsMind_82 rfl ?_
            refine mz_put G hA dX3_keepsMind_83 rfl (j := 11) fl_X3_65_2p rfl rfl (by decide) rfl ?_
            exact z_vret G dX3_keepsMind_86 rfl (hK)
          · exact absurd ((not_congr <| nI_leI (a := 99) (b := i) (by omega) (by omega)).mp c_50) (by omega)
        | succ n ih =>
          intro i t S1 F' hi ht hF hK
          refine z_iload_n G dX3_keepsMind_47 rfl rfl rfl ?_
          refine z_bipush G dX3_keepsMind_48 rfl (v := 99) (by decide) ?_
          refine z_icmp_ge G dX3_keepsMind_50 rfl (tgt := 76) (by decide) (fun c_50 => ?_) (fun c_50 => ?_)
          · exact absurd ((nI_leI (a := 99) (b := i) (by omega) (by omega)).mp c_50) (by omega)
          · have c_50n := Int32.not_le.mp c_50
            have c_50N := (not_congr <| nI_leI (a := 99) (b := i) (by omega) (by omega)).mp c_50
            refine z_aload_n G dX3_keepsMind_53 rfl rfl rfl ?_
            refine mz_get G hA dX3_keepsMind_54 rfl (j := 8) fl_X3_19_2 rfl ?_
            refine z_bipush G dX3_keepsMind_57 rfl (v := 99) (by decide) ?_
            refine z_iload_n G dX3_keepsMind_59 rfl rfl rfl ?_
            refine z_imulN G (99) (t) rfl rfl dX3_keepsMind_60 rfl ?_
            refine z_iload_n G dX3_keepsMind_61 rfl rfl rfl ?_
            refine z_iaddN G (99 * t) (i) rfl rfl dX3_keepsMind_62 rfl ?_
            refine z_aload_n G dX3_keepsMind_63 rfl rfl rfl ?_
            refine mz_get G hA dX3_keepsMind_64 rfl (j := 10) fl_X3_25_2 rfl ?_
            refine z_iload_n G dX3_keepsMind_67 rfl rfl rfl ?_
            refine mz_ild G hA 10 (by decide) rfl dX3_keepsMind_68 rfl (i) rfl (by omega) (by decide) ?_
            refine mz_ist G hA 8 (by decide) (by decide) (fun _ => rfl) dX3_keepsMind_69 rfl (99 * t + i) rfl (by omega) (by decide) ?_
            refine z_iinc G dX3_keepsMind_70 rfl rfl (nI_1 _) (by decide) (zcat_s rfl) (show Z 73 [_, _, _] _ _ _ _ from ?_)
            refine z_goto G dX3_keepsMind_73 (tgt := 47) (by decide) ?_
            exact ih (i + 1) t S1 _ (by omega) ht (by subst hF; rw [upA_s, upA_upA, ← cpy_s, Nat.zero_add]; rfl) hK
      first | exact L47 99 0 _ _ F rfl (by omega) (by rw [cpy_0, upA_id]) (by rw [kmS_8]; exact hK) | exact L47 99 0 _ _ F rfl (by omega) (by rw [cpy_0, upA_id]) (by rw [kmS_n hp0 c_6N]; simpa only [m_kmt, if_neg c_6N] using hK)
    · have c_6N := (nI_eq (a := c) (b := 8) (by omega) (by omega)).mp c_6
      subst c_6N
      refine z_aload_n G dX3_keepsMind_9 rfl rfl rfl ?_
      refine z_aload_n G dX3_keepsMind_10 rfl rfl rfl ?_
      refine mz_getN G hA dX3_keepsMind_11 rfl (j := 12) fl_X3_68_2 rfl (f) hp2 ?_
      refine z_iconst G dX3_keepsMind_14 rfl (v := 1) (by decide) ?_
      refine z_iaddN G (f) (1) rfl rfl dX3_keepsMind_15 rfl ?_
      refine z_bipush G dX3_keepsMind_16 rfl (v := 8) (by decide) ?_
      refine z_iremN G (f + 1) (8) rfl rfl (by omega) (by omega) (by omega) dX3_keepsMind_18 rfl ?_
      refine mz_put G hA dX3_keepsMind_19 rfl (j := 12) fl_X3_68_2p rfl rfl (by decide) rfl ?_
      refine z_aload_n G dX3_keepsMind_22 rfl rfl rfl ?_
      refine z_dup G dX3_keepsMind_23 rfl rfl ?_
      refine mz_getN G hA dX3_keepsMind_24 rfl (j := 11) fl_X3_65_2 rfl (8) hp0 ?_
      refine z_iconst G dX3_keepsMind_27 rfl (v := 1) (by decide) ?_
      refine z_isubN G (8) (1) rfl rfl (by decide) dX3_keepsMind_28 rfl ?_
      refine mz_put G hA dX3_keepsMind_29 rfl (j := 11) fl_X3_65_2p rfl rfl (by decide) rfl ?_
      refine z_aload_n G dX3_keepsMind_32 rfl rfl rfl ?_
      refine mz_getN G hA dX3_keepsMind_33 rfl (j := 12) fl_X3_68_2 rfl ((f + 1) % 8) rfl ?_
      refine z_aload_n G dX3_keepsMind_36 rfl rfl rfl ?_
      refine mz_getN G hA dX3_keepsMind_37 rfl (j := 11) fl_X3_65_2 rfl (8 - 1) rfl ?_
      refine z_iaddN G ((f + 1) % 8) (8 - 1) rfl rfl dX3_keepsMind_40 rfl ?_
      refine z_bipush G dX3_keepsMind_41 rfl (v := 8) (by decide) ?_
      refine z_iremN G ((f + 1) % 8 + (8 - 1)) (8) rfl rfl (by omega) (by omega) (by omega) dX3_keepsMind_43 rfl ?_
      refine z_istore_n G dX3_keepsMind_44 rfl (i := 1) rfl (by decide) (zcat_s rfl) (show Z 45 [_, _, _] _ _ _ _ from ?_)
      refine z_iconst G dX3_keepsMind_45 rfl (v := 0) (by decide) ?_
      refine z_istore_n G dX3_keepsMind_46 rfl (i := 2) rfl (by decide) (zcat_s rfl) (show Z 47 [_, _, _] _ _ _ _ from ?_)
      have L47 : ∀ (n i t : Nat) (S1 : Nat → Int32) (F' : Nat → Nat → Int32), i + n = 99 → t < 8 → F' = upA F 8 (va_cpy (F 10) (F 8) 0 (99 * t) i) → K (.inl none) (mdl A (upd S1 11 (S1 11 + 1)) (upA F 8 (va_cpy (F 10) (F 8) 0 (99 * t) 99)) w g0) → Z 47 [some (.ref (A 0)), some (.int (nI t)), some (.int (nI i))] [] (mdl A S1 F' w g0) 0 0 := by
        intro n
        induction n with
        | zero =>
          intro i t S1 F' hi ht hF hK
          refine z_iload_n G dX3_keepsMind_47 rfl rfl rfl ?_
          refine z_bipush G dX3_keepsMind_48 rfl (v := 99) (by decide) ?_
          refine z_icmp_ge G dX3_keepsMind_50 rfl (tgt := 76) (by decide) (fun c_50 => ?_) (fun c_50 => ?_)
          · have c_50n := Int32.not_lt.mpr c_50
            have c_50N := (nI_leI (a := 99) (b := i) (by omega) (by omega)).mp c_50
            obtain rfl : i = 99 := by omega
            subst hF
            refine z_aload_n G dX3_keepsMind_76 rfl rfl rfl ?_
            refine z_dup G dX3_keepsMind_77 rfl rfl ?_
            refine mz_get G hA dX3_keepsMind_78 rfl (j := 11) fl_X3_65_2 rfl ?_
            refine z_iconst G dX3_keepsMind_81 rfl (v := 1) (by decide) ?_
            refine z_iadd G dX3_keepsMind_82 rfl ?_
            refine mz_put G hA dX3_keepsMind_83 rfl (j := 11) fl_X3_65_2p rfl rfl (by decide) rfl ?_
            exact z_vret G dX3_keepsMind_86 rfl (hK)
          · exact absurd ((not_congr <| nI_leI (a := 99) (b := i) (by omega) (by omega)).mp c_50) (by omega)
        | succ n ih =>
          intro i t S1 F' hi ht hF hK
          refine z_iload_n G dX3_keepsMind_47 rfl rfl rfl ?_
          refine z_bipush G dX3_keepsMind_48 rfl (v := 99) (by decide) ?_
          refine z_icmp_ge G dX3_keepsMind_50 rfl (tgt := 76) (by decide) (fun c_50 => ?_) (fun c_50 => ?_)
          · exact absurd ((nI_leI (a := 99) (b := i) (by omega) (by omega)).mp c_50) (by omega)
          · have c_50n := Int32.not_le.mp c_50
            have c_50N := (not_congr <| nI_leI (a := 99) (b := i) (by omega) (by omega)).mp c_50
            refine z_aload_n G dX3_keepsMind_53 rfl rfl rfl ?_
            refine mz_get G hA dX3_keepsMind_54 rfl (j := 8) fl_X3_19_2 rfl ?_
            refine z_bipush G dX3_keepsMind_57 rfl (v := 99) (by decide) ?_
            refine z_iload_n G dX3_keepsMind_59 rfl rfl rfl ?_
            refine z_imulN G (99) (t) rfl rfl dX3_keepsMind_60 rfl ?_
            refine z_iload_n G dX3_keepsMind_61 rfl rfl rfl ?_
            refine z_iaddN G (99 * t) (i) rfl rfl dX3_keepsMind_62 rfl ?_
            refine z_aload_n G dX3_keepsMind_63 rfl rfl rfl ?_
            refine mz_get G hA dX3_keepsMind_64 rfl (j := 10) fl_X3_25_2 rfl ?_
            refine z_iload_n G dX3_keepsMind_67 rfl rfl rfl ?_
            refine mz_ild G hA 10 (by decide) rfl dX3_keepsMind_68 rfl (i) rfl (by omega) (by decide) ?_
            refine mz_ist G hA 8 (by decide) (by decide) (fun _ => rfl) dX3_keepsMind_69 rfl (99 * t + i) rfl (by omega) (by decide) ?_
            refine z_iinc G dX3_keepsMind_70 rfl rfl (nI_1 _) (by decide) (zcat_s rfl) (show Z 73 [_, _, _] _ _ _ _ from ?_)
            refine z_goto G dX3_keepsMind_73 (tgt := 47) (by decide) ?_
            exact ih (i + 1) t S1 _ (by omega) ht (by subst hF; rw [upA_s, upA_upA, ← cpy_s, Nat.zero_add]; rfl) hK
      first | exact L47 99 0 _ _ F rfl (by omega) (by rw [cpy_0, upA_id]) (by rw [kmS_8]; exact hK) | exact L47 99 0 _ _ F rfl (by omega) (by rw [cpy_0, upA_id]) (by rw [kmS_n hp0 c_6N]; simpa only [m_kmt, if_neg c_6N] using hK)
def T_X3_remembers : List Value → Hp → (Res → Hp → Prop) → Prop := fun av g K => ∃ (A : Nat → Nat) (S : Nat → Int32) (F : Nat → Nat → Int32) (w : Nat → Int32) (g0 : Hp) (c f : Nat), mok A ∧ g = mdl A S F w g0 ∧ av = [.ref (A 0)] ∧ S 11 = nI c ∧ c ≤ 8 ∧ S 12 = nI f ∧ f < 8 ∧ K (.inl none) (mdl A (m_kmS S c f) (m_rem F w c f upA) w g0)
theorem C_X3_remembers {l : Launch} {s0 : State} (h0 : St0 l s0) : Ctr l s0 yX3_remembers (ws_ yX3_remembers cX3_remembers 1 (Option.none : Option Jvm.ClassFile.FieldType)) 2 0 0 T_X3_remembers := by
  refine ctr_of h0 (by decide) ?_ ?_
  · rintro av g K ⟨A, S, F, w, g0, c, f, hA, rfl, rfl, hp0, hp1, hp2, hp3, hK⟩
    exact Nat.le_of_ble_eq_true rfl
  · rintro Z X av g K G ⟨A, S, F, w, g0, c, f, hA, rfl, rfl, hp0, hp1, hp2, hp3, hK⟩
    show Z 0 [some (.ref (A 0))] [] _ _ _
    refine z_aload_n G dX3_remembers_0 rfl rfl rfl ?_
    refine z_V G dX3_remembers_1 rfl m_X3_thinks q2691 (C_X3_thinks h0) (by decide) (As := []) rfl rfl (Nat.le_of_ble_eq_true rfl) (Nat.zero_le _) (Nat.zero_le _) (mhas hA) (⟨_, _, _, _, _, hA, rfl, rfl, ?_⟩)
    refine z_aload_n G dX3_remembers_4 rfl rfl rfl ?_
    refine z_V G dX3_remembers_5 rfl m_X3_keepsMind q2695 (C_X3_keepsMind h0) (by decide) (As := []) rfl rfl (Nat.le_of_ble_eq_true rfl) (Nat.zero_le _) (Nat.zero_le _) (mhas hA) (⟨_, _, _, _, _, c, f, hA, rfl, rfl, hp0, hp1, hp2, hp3, ?_⟩)
    exact z_vret G dX3_remembers_8 rfl (hK)
