/-! THE REFERENCE: lines -/
def T_X3_character : List Value → Hp → (Res → Hp → Prop) → Prop := fun av g K => ∃ (A : Nat → Nat) (S : Nat → Int32) (F : Nat → Nat → Int32) (w : Nat → Int32) (g0 : Hp) (i : Int32) (k ll : Nat), mok A ∧ g = mdl A S F w g0 ∧ av = [.ref (A 0), .int i] ∧ S 22 = nI ll ∧ (btw i 0 (nI ll - 1) = true → i = nI k ∧ k < ll) ∧ ll ≤ 90 ∧ (∀ j, j < ll → vp_nar .char (F 21 j) = F 21 j) ∧ K (.inl (some (.int (q_chr F i k ll).2))) (mdl A (upd S 0 (q_chr F i k ll).1) F w g0)
theorem C_X3_character {l : Launch} {s0 : State} (h0 : St0 l s0) : Ctr l s0 yX3_character (ws_ yX3_character cX3_character 2 (Option.some Jvm.ClassFile.FieldType.char)) 2 0 0 T_X3_character := by
  refine ctr_of h0 (by decide) ?_ ?_
  · rintro av g K ⟨A, S, F, w, g0, i, k, ll, hA, rfl, rfl, hp0, hp1, hp2, hp3, hK⟩
    exact Nat.le_of_ble_eq_true rfl
  · rintro Z X av g K G ⟨A, S, F, w, g0, i, k, ll, hA, rfl, rfl, hp0, hp1, hp2, hp3, hK⟩
    show Z 0 [some (.ref (A 0)), some (.int i)] [] _ _ _
    refine z_aload_n G dX3_character_0 rfl rfl rfl ?_
    refine z_iconst G dX3_character_1 rfl (v := 0) (by decide) ?_
    refine mz_put G hA dX3_character_2 rfl (j := 0) fl_X3_42_2p rfl rfl (by decide) rfl ?_
    refine z_iload_n G dX3_character_5 rfl rfl rfl ?_
    refine z_iconst G dX3_character_6 rfl (v := 0) (by decide) ?_
    refine z_aload_n G dX3_character_7 rfl rfl rfl ?_
    refine mz_getN G hA dX3_character_8 rfl (j := 22) fl_X3_292_2 rfl (ll) hp0 ?_
    refine z_iconst G dX3_character_11 rfl (v := 1) (by decide) ?_
    refine z_isub G dX3_character_12 rfl ?_
    refine z_S G dX3_character_13 rfl m_X3_isBetween q2668 (C_X3_isBetween h0) (by decide) (As := [_, _, _]) rfl rfl (Nat.le_of_ble_eq_true rfl) (Nat.zero_le _) (Nat.zero_le _) (⟨_, _, _, rfl, ?_⟩)
    refine z_if_eq G dX3_character_16 rfl (tgt := 28) (by decide) (fun c_16 => ?_) (fun c_16 => ?_)
    · have c_16b := bI_f c_16
      refine z_aload_n G dX3_character_28 rfl rfl rfl ?_
      refine z_iconst G dX3_character_29 rfl (v := 1) (by decide) ?_
      refine z_V G dX3_character_30 rfl m_X3_fails q2683 (C_X3_fails h0) (by decide) (As := [_]) rfl rfl (Nat.le_of_ble_eq_true rfl) (Nat.zero_le _) (Nat.zero_le _) (mhas hA) (⟨_, _, _, _, _, _, hA, rfl, rfl, ?_⟩)
      refine z_i2c G dX3_character_33 rfl (show ((0 : Int32).toUInt32 % 65536).toInt32 = 0 from rfl) ?_
      exact z_iret G dX3_character_34 rfl rfl (by first | (rw [upd_upd]; simpa [q_chr, isP, bI, c_16, c_16b] using hK) | simpa [q_chr, isP, bI, c_16, c_16b] using hK)
    · have c_16b := bI_t c_16
      obtain ⟨rfl, hq⟩ := hp1 c_16b
      have hn := hp3 k hq
      refine z_aload_n G dX3_character_19 rfl rfl rfl ?_
      refine mz_get G hA dX3_character_20 rfl (j := 21) fl_X3_39_2 rfl ?_
      refine z_iload_n G dX3_character_23 rfl rfl rfl ?_
      refine mz_cld G hA 21 (by decide) rfl dX3_character_24 rfl (k) rfl (by omega) (by decide) ?_
      refine z_goto G dX3_character_25 (tgt := 34) (by decide) ?_
      exact z_iret G dX3_character_34 rfl (ch_na2 hn) (by first | (rw [upd_upd]; simpa [q_chr, isP, bI, c_16, c_16b] using hK) | simpa [q_chr, isP, bI, c_16, c_16b] using hK)
def T_X3_puts : List Value → Hp → (Res → Hp → Prop) → Prop := fun av g K => ∃ (A : Nat → Nat) (S : Nat → Int32) (F : Nat → Nat → Int32) (w : Nat → Int32) (g0 : Hp) (xs : List Nat) (c : Nat), mok A ∧ g = mdl A (lS S xs) (lF F xs) w g0 ∧ av = [.ref (A 0), .int (nI c)] ∧ c < 128 ∧ xs.length < 90 ∧ K (.inl none) (mdl A (lS S (xs ++ [c])) (lF F (xs ++ [c])) w g0)
theorem C_X3_puts {l : Launch} {s0 : State} (h0 : St0 l s0) : Ctr l s0 yX3_puts (ws_ yX3_puts cX3_puts 2 (Option.none : Option Jvm.ClassFile.FieldType)) 1 0 0 T_X3_puts := by
  refine ctr_of h0 (by decide) ?_ ?_
  · rintro av g K ⟨A, S, F, w, g0, xs, c, hA, rfl, rfl, hp0, hp1, hK⟩
    exact Nat.le_of_ble_eq_true rfl
  · rintro Z X av g K G ⟨A, S, F, w, g0, xs, c, hA, rfl, rfl, hp0, hp1, hK⟩
    show Z 0 [some (.ref (A 0)), some (.int (nI c))] [] _ _ _
    refine z_aload_n G dX3_puts_0 rfl rfl rfl ?_
    refine mz_get G hA dX3_puts_1 rfl (j := 21) fl_X3_39_2 rfl ?_
    refine z_aload_n G dX3_puts_4 rfl rfl rfl ?_
    refine mz_getN G hA dX3_puts_5 rfl (j := 22) fl_X3_292_2 rfl (xs.length) rfl ?_
    refine z_iload_n G dX3_puts_8 rfl rfl rfl ?_
    refine z_i2c G dX3_puts_9 rfl rfl ?_
    refine mz_cst G hA 21 (by decide) (by decide) (fun _ => rfl) dX3_puts_10 rfl (xs.length) rfl (by omega) (by decide) ?_
    rw [lF_s (c := c) (ch_nar hp0)]
    refine z_aload_n G dX3_puts_11 rfl rfl rfl ?_
    refine z_dup G dX3_puts_12 rfl rfl ?_
    refine mz_getN G hA dX3_puts_13 rfl (j := 22) fl_X3_292_2 rfl (xs.length) rfl ?_
    refine z_iconst G dX3_puts_16 rfl (v := 1) (by decide) ?_
    refine z_iaddN G (xs.length) (1) rfl rfl dX3_puts_17 rfl ?_
    refine mz_put G hA dX3_puts_18 rfl (j := 22) fl_X3_292_2p rfl rfl (by decide) rfl ?_
    rw [lS_s (c := c) rfl]
    exact z_vret G dX3_puts_21 rfl (hK)
def T_X3_putsNumber : List Value → Hp → (Res → Hp → Prop) → Prop := fun av g K => ∃ (A : Nat → Nat) (S : Nat → Int32) (F : Nat → Nat → Int32) (w : Nat → Int32) (g0 : Hp) (xs : List Nat) (v : Nat), mok A ∧ g = mdl A (lS S xs) (lF F xs) w g0 ∧ av = [.ref (A 0), .int (nI v)] ∧ v ≤ 99 ∧ xs.length < 89 ∧ K (.inl none) (mdl A (lS S (xs ++ l_num v)) (lF F (xs ++ l_num v)) w g0)
theorem C_X3_putsNumber {l : Launch} {s0 : State} (h0 : St0 l s0) : Ctr l s0 yX3_putsNumber (ws_ yX3_putsNumber cX3_putsNumber 2 (Option.none : Option Jvm.ClassFile.FieldType)) 2 0 0 T_X3_putsNumber := by
  refine ctr_of h0 (by decide) ?_ ?_
  · rintro av g K ⟨A, S, F, w, g0, xs, v, hA, rfl, rfl, hp0, hp1, hK⟩
    exact Nat.le_of_ble_eq_true rfl
  · rintro Z X av g K G ⟨A, S, F, w, g0, xs, v, hA, rfl, rfl, hp0, hp1, hK⟩
    show Z 0 [some (.ref (A 0)), some (.int (nI v))] [] _ _ _
    refine z_iload_n G dX3_putsNumber_0 rfl rfl rfl ?_
    refine z_bipush G dX3_putsNumber_1 rfl (v := 9) (by decide) ?_
    refine z_icmp_le G dX3_putsNumber_3 rfl (tgt := 17) (by decide) (fun c_3 => ?_) (fun c_3 => ?_)
    · have c_3n := Int32.not_lt.mpr c_3
      have c_3N := (nI_leI (a := v) (b := 9) (by omega) (by omega)).mp c_3
      refine z_aload_n G dX3_putsNumber_17 rfl rfl rfl ?_
      refine z_bipush G dX3_putsNumber_18 rfl (v := 48) (by decide) ?_
      refine z_iload_n G dX3_putsNumber_20 rfl rfl rfl ?_
      refine z_bipush G dX3_putsNumber_21 rfl (v := 10) (by decide) ?_
      refine z_iremN G (v) (10) rfl rfl (by omega) (by omega) (by omega) dX3_putsNumber_23 rfl ?_
      refine z_iaddN G (48) (v % 10) rfl rfl dX3_putsNumber_24 rfl ?_
      refine z_V G dX3_putsNumber_25 rfl m_X3_puts q3125 (C_X3_puts h0) (by decide) (As := [_]) rfl rfl (Nat.le_of_ble_eq_true rfl) (Nat.zero_le _) (Nat.zero_le _) (mhas hA) (⟨_, _, _, _, _, _, 48 + v % 10, hA, rfl, rfl, (by first | decide | omega), (by first | omega | (simp only [List.length_append, List.length_cons, List.length_nil]; omega) | (split <;> simp <;> omega)), ?_⟩)
      exact z_vret G dX3_putsNumber_28 rfl (by first | (rw [l_num, if_pos (show 9 < v by omega), ← List.append_assoc] at hK; exact hK) | (rw [l_num, if_neg (show ¬ 9 < v by omega), List.nil_append] at hK; exact hK))
    · have c_3n := Int32.not_le.mp c_3
      have c_3N := (not_congr <| nI_leI (a := v) (b := 9) (by omega) (by omega)).mp c_3
      refine z_aload_n G dX3_putsNumber_6 rfl rfl rfl ?_
      refine z_bipush G dX3_putsNumber_7 rfl (v := 48) (by decide) ?_
      refine z_iload_n G dX3_putsNumber_9 rfl rfl rfl ?_
      refine z_bipush G dX3_putsNumber_10 rfl (v := 10) (by decide) ?_
      refine z_idivN G (v) (10) rfl rfl (by omega) (by omega) (by omega) dX3_putsNumber_12 rfl ?_
      refine z_iaddN G (48) (v / 10) rfl rfl dX3_putsNumber_13 rfl ?_
      refine z_V G dX3_putsNumber_14 rfl m_X3_puts q3125 (C_X3_puts h0) (by decide) (As := [_]) rfl rfl (Nat.le_of_ble_eq_true rfl) (Nat.zero_le _) (Nat.zero_le _) (mhas hA) (⟨_, _, _, _, _, _, 48 + v / 10, hA, rfl, rfl, (by first | decide | omega), (by first | omega | (simp only [List.length_append, List.length_cons, List.length_nil]; omega) | (split <;> simp <;> omega)), ?_⟩)
      refine z_aload_n G dX3_putsNumber_17 rfl rfl rfl ?_
      refine z_bipush G dX3_putsNumber_18 rfl (v := 48) (by decide) ?_
      refine z_iload_n G dX3_putsNumber_20 rfl rfl rfl ?_
      refine z_bipush G dX3_putsNumber_21 rfl (v := 10) (by decide) ?_
      refine z_iremN G (v) (10) rfl rfl (by omega) (by omega) (by omega) dX3_putsNumber_23 rfl ?_
      refine z_iaddN G (48) (v % 10) rfl rfl dX3_putsNumber_24 rfl ?_
      refine z_V G dX3_putsNumber_25 rfl m_X3_puts q3125 (C_X3_puts h0) (by decide) (As := [_]) rfl rfl (Nat.le_of_ble_eq_true rfl) (Nat.zero_le _) (Nat.zero_le _) (mhas hA) (⟨_, _, _, _, _, _, 48 + v % 10, hA, rfl, rfl, (by first | decide | omega), (by first | omega | (simp only [List.length_append, List.length_cons, List.length_nil]; omega) | (split <;> simp <;> omega)), ?_⟩)
      exact z_vret G dX3_putsNumber_28 rfl (by first | (rw [l_num, if_pos (show 9 < v by omega), ← List.append_assoc] at hK; exact hK) | (rw [l_num, if_neg (show ¬ 9 < v by omega), List.nil_append] at hK; exact hK))
def T_X3_putsPipe : List Value → Hp → (Res → Hp → Prop) → Prop := fun av g K => ∃ (A : Nat → Nat) (S : Nat → Int32) (F : Nat → Nat → Int32) (w : Nat → Int32) (g0 : Hp) (xs : List Nat) (p : Nat), mok A ∧ g = mdl A (lS S xs) (lF F xs) w g0 ∧ av = [.ref (A 0), .int (nI p)] ∧ p < 10 ∧ (pw w p 0 = nI (stN w p) ∧ stN w p ≤ 12) ∧ (pw w p 1 = nI (crN w p) ∧ crN w p ≤ 9) ∧ xs.length ≤ 82 ∧ K (.inl none) (mdl A (lS S (xs ++ l_pipe w p)) (lF F (xs ++ l_pipe w p)) w g0)
theorem C_X3_putsPipe {l : Launch} {s0 : State} (h0 : St0 l s0) : Ctr l s0 yX3_putsPipe (ws_ yX3_putsPipe cX3_putsPipe 2 (Option.none : Option Jvm.ClassFile.FieldType)) 3 0 0 T_X3_putsPipe := by
  refine ctr_of h0 (by decide) ?_ ?_
  · rintro av g K ⟨A, S, F, w, g0, xs, p, hA, rfl, rfl, hp0, hp1, hp2, hp3, hK⟩
    exact Nat.le_of_ble_eq_true rfl
  · rintro Z X av g K G ⟨A, S, F, w, g0, xs, p, hA, rfl, rfl, hp0, hp1, hp2, hp3, hK⟩
    show Z 0 [some (.ref (A 0)), some (.int (nI p))] [] _ _ _
    obtain ⟨q1, q2⟩ := hp1
    obtain ⟨q3, q4⟩ := hp2
    have n1 := num_len1 (v := p) (by omega)
    have n2 := num_len1 q4
    have n3 := num_len (v := stN w p)
    refine z_aload_n G dX3_putsPipe_0 rfl rfl rfl ?_
    refine z_iload_n G dX3_putsPipe_1 rfl rfl rfl ?_
    refine z_V G dX3_putsPipe_2 rfl m_X3_putsNumber q3133 (C_X3_putsNumber h0) (by decide) (As := [_]) rfl rfl (Nat.le_of_ble_eq_true rfl) (Nat.zero_le _) (Nat.zero_le _) (mhas hA) (⟨_, _, _, _, _, _, p, hA, rfl, rfl, (by omega), (by first | omega | (simp only [List.length_append, List.length_cons, List.length_nil]; omega)), ?_⟩)
    refine z_aload_n G dX3_putsPipe_5 rfl rfl rfl ?_
    refine z_bipush G dX3_putsPipe_6 rfl (v := 58) (by decide) ?_
    refine z_V G dX3_putsPipe_8 rfl m_X3_puts q3125 (C_X3_puts h0) (by decide) (As := [_]) rfl rfl (Nat.le_of_ble_eq_true rfl) (Nat.zero_le _) (Nat.zero_le _) (mhas hA) (⟨_, _, _, _, _, _, 58, hA, rfl, rfl, (by decide), (by first | omega | (simp only [List.length_append, List.length_cons, List.length_nil]; omega)), ?_⟩)
    refine z_aload_n G dX3_putsPipe_11 rfl rfl rfl ?_
    refine z_aload_n G dX3_putsPipe_12 rfl rfl rfl ?_
    refine z_iload_n G dX3_putsPipe_13 rfl rfl rfl ?_
    refine z_iconst G dX3_putsPipe_14 rfl (v := 0) (by decide) ?_
    refine z_V G dX3_putsPipe_15 rfl m_X3_of q2751 (C_X3_of h0) (by decide) (As := [_, _]) rfl rfl (Nat.le_of_ble_eq_true rfl) (Nat.zero_le _) (Nat.zero_le _) (mhas hA) (⟨_, _, _, _, _, _, _, hA, rfl, rfl, (by first | assumption | decide | omega), (by first | assumption | decide | omega), ?_⟩)
    rw [q1]
    refine z_V G dX3_putsPipe_18 rfl m_X3_putsNumber q3133 (C_X3_putsNumber h0) (by decide) (As := [_]) rfl rfl (Nat.le_of_ble_eq_true rfl) (Nat.zero_le _) (Nat.zero_le _) (mhas hA) (⟨_, _, _, _, _, _, stN w p, hA, rfl, rfl, (by omega), (by first | omega | (simp only [List.length_append, List.length_cons, List.length_nil]; omega)), ?_⟩)
    refine z_aload_n G dX3_putsPipe_21 rfl rfl rfl ?_
    refine z_bipush G dX3_putsPipe_22 rfl (v := 47) (by decide) ?_
    refine z_V G dX3_putsPipe_24 rfl m_X3_puts q3125 (C_X3_puts h0) (by decide) (As := [_]) rfl rfl (Nat.le_of_ble_eq_true rfl) (Nat.zero_le _) (Nat.zero_le _) (mhas hA) (⟨_, _, _, _, _, _, 47, hA, rfl, rfl, (by decide), (by first | omega | (simp only [List.length_append, List.length_cons, List.length_nil]; omega)), ?_⟩)
    refine z_aload_n G dX3_putsPipe_27 rfl rfl rfl ?_
    refine z_aload_n G dX3_putsPipe_28 rfl rfl rfl ?_
    refine z_iload_n G dX3_putsPipe_29 rfl rfl rfl ?_
    refine z_iconst G dX3_putsPipe_30 rfl (v := 1) (by decide) ?_
    refine z_V G dX3_putsPipe_31 rfl m_X3_of q2751 (C_X3_of h0) (by decide) (As := [_, _]) rfl rfl (Nat.le_of_ble_eq_true rfl) (Nat.zero_le _) (Nat.zero_le _) (mhas hA) (⟨_, _, _, _, _, _, _, hA, rfl, rfl, (by first | assumption | decide | omega), (by first | assumption | decide | omega), ?_⟩)
    rw [q3]
    refine z_V G dX3_putsPipe_34 rfl m_X3_putsNumber q3133 (C_X3_putsNumber h0) (by decide) (As := [_]) rfl rfl (Nat.le_of_ble_eq_true rfl) (Nat.zero_le _) (Nat.zero_le _) (mhas hA) (⟨_, _, _, _, _, _, crN w p, hA, rfl, rfl, (by omega), (by first | omega | (simp only [List.length_append, List.length_cons, List.length_nil]; omega)), ?_⟩)
    refine z_aload_n G dX3_putsPipe_37 rfl rfl rfl ?_
    refine z_iload_n G dX3_putsPipe_38 rfl rfl rfl ?_
    refine z_iconst G dX3_putsPipe_39 rfl (v := 2) (by decide) ?_
    refine z_V G dX3_putsPipe_40 rfl m_X3_of q2751 (C_X3_of h0) (by decide) (As := [_, _]) rfl rfl (Nat.le_of_ble_eq_true rfl) (Nat.zero_le _) (Nat.zero_le _) (mhas hA) (⟨_, _, _, _, _, _, _, hA, rfl, rfl, (by first | assumption | decide | omega), (by first | assumption | decide | omega), ?_⟩)
    refine z_iconst G dX3_putsPipe_43 rfl (v := 5) (by decide) ?_
    refine z_icmp_lt G dX3_putsPipe_44 rfl (tgt := 53) (by decide) (fun c_44 => ?_) (fun c_44 => ?_)
    · have c_44n := Int32.not_le.mpr c_44
      exact z_vret G dX3_putsPipe_53 rfl (by first | (rw [l_pipe, if_pos c_44] at hK; simpa using hK) | (rw [l_pipe, if_neg c_44] at hK; simpa using hK))
    · have c_44n := Int32.not_lt.mp c_44
      refine z_aload_n G dX3_putsPipe_47 rfl rfl rfl ?_
      refine z_bipush G dX3_putsPipe_48 rfl (v := 126) (by decide) ?_
      refine z_V G dX3_putsPipe_50 rfl m_X3_puts q3125 (C_X3_puts h0) (by decide) (As := [_]) rfl rfl (Nat.le_of_ble_eq_true rfl) (Nat.zero_le _) (Nat.zero_le _) (mhas hA) (⟨_, _, _, _, _, _, 126, hA, rfl, rfl, (by decide), (by first | omega | (simp only [List.length_append, List.length_cons, List.length_nil]; omega)), ?_⟩)
      exact z_vret G dX3_putsPipe_53 rfl (by first | (rw [l_pipe, if_pos c_44] at hK; simpa using hK) | (rw [l_pipe, if_neg c_44] at hK; simpa using hK))
def T_X3_tellBench : List Value → Hp → (Res → Hp → Prop) → Prop := fun av g K => ∃ (A : Nat → Nat) (S : Nat → Int32) (F : Nat → Nat → Int32) (w : Nat → Int32) (g0 : Hp) (nb : Nat), mok A ∧ g = mdl A S F w g0 ∧ av = [.ref (A 0)] ∧ w 3 = nI nb ∧ nb ≤ 10 ∧ r_bok w nb ∧ (∀ p, p < 10 → pw w p 0 = nI (stN w p) ∧ stN w p ≤ 12) ∧ (∀ p, p < 10 → pw w p 1 = nI (crN w p) ∧ crN w p ≤ 9) ∧ K (.inl (some (.int (nI (l_tell w nb).length)))) (mdl A (lS (upd S 0 0) (l_tell w nb)) (lF F (l_tell w nb)) w g0)
theorem C_X3_tellBench {l : Launch} {s0 : State} (h0 : St0 l s0) : Ctr l s0 yX3_tellBench (ws_ yX3_tellBench cX3_tellBench 2 (Option.some Jvm.ClassFile.FieldType.int)) 4 0 0 T_X3_tellBench := by
  refine ctr_of h0 (by decide) ?_ ?_
  · rintro av g K ⟨A, S, F, w, g0, nb, hA, rfl, rfl, hp0, hp1, hp2, hp3, hp4, hK⟩
    exact Nat.le_of_ble_eq_true rfl
  · rintro Z X av g K G ⟨A, S, F, w, g0, nb, hA, rfl, rfl, hp0, hp1, hp2, hp3, hp4, hK⟩
    show Z 0 [some (.ref (A 0)), none] [] _ _ _
    refine z_aload_n G dX3_tellBench_0 rfl rfl rfl ?_
    refine z_iconst G dX3_tellBench_1 rfl (v := 0) (by decide) ?_
    refine mz_put G hA dX3_tellBench_2 rfl (j := 0) fl_X3_42_2p rfl rfl (by decide) rfl ?_
    refine z_aload_n G dX3_tellBench_5 rfl rfl rfl ?_
    refine z_iconst G dX3_tellBench_6 rfl (v := 0) (by decide) ?_
    refine mz_put G hA dX3_tellBench_7 rfl (j := 22) fl_X3_292_2p rfl rfl (by decide) rfl ?_
    rw [← lF_0 F]
    show Z 10 _ _ (mdl A (lS (upd S 0 0) []) (lF F []) w g0) _ _
    refine z_aload_n G dX3_tellBench_10 rfl rfl rfl ?_
    refine mz_get G hA dX3_tellBench_11 rfl (j := 7) fl_X3_16_2 rfl ?_
    refine z_iconst G dX3_tellBench_14 rfl (v := 3) (by decide) ?_
    refine mz_wldN G hA dX3_tellBench_15 rfl (3) rfl (by decide) (nb) hp0 ?_
    refine z_if_ne G dX3_tellBench_16 rfl (tgt := 49) (by decide) (fun c_16 => ?_) (fun c_16 => ?_)
    · have c_16N := (not_congr <| nI_eq (a := nb) (b := 0) (by omega) (by omega)).mp c_16
      refine z_iconst G dX3_tellBench_49 rfl (v := 0) (by decide) ?_
      refine z_istore_n G dX3_tellBench_50 rfl (i := 1) rfl (by decide) (zcat_s rfl) (show Z 51 [_, _] _ _ _ _ from ?_)
      have L51 : ∀ (n i : Nat) (ys : List Nat), i + n = nb → (nb = 0 → ys = l_tell w 0) → (¬ nb = 0 → ys = l_bench w i) → ys.length ≤ 8 * i + 5 → Z 51 [some (.ref (A 0)), some (.int (nI i))] [] (mdl A (lS (upd S 0 0) ys) (lF F ys) w g0) 0 0 := by
        intro n
        induction n with
        | zero =>
          intro i ys hi h1 h2 h3
          refine z_iload_n G dX3_tellBench_51 rfl rfl rfl ?_
          refine z_aload_n G dX3_tellBench_52 rfl rfl rfl ?_
          refine mz_get G hA dX3_tellBench_53 rfl (j := 7) fl_X3_16_2 rfl ?_
          refine z_iconst G dX3_tellBench_56 rfl (v := 3) (by decide) ?_
          refine mz_wldN G hA dX3_tellBench_57 rfl (3) rfl (by decide) (nb) hp0 ?_
          refine z_icmp_ge G dX3_tellBench_58 rfl (tgt := 90) (by decide) (fun c_58 => ?_) (fun c_58 => ?_)
          · have c_58n := Int32.not_lt.mpr c_58
            have c_58N := (nI_leI (a := nb) (b := i) (by omega) (by omega)).mp c_58
            refine z_aload_n G dX3_tellBench_90 rfl rfl rfl ?_
            refine mz_getN G hA dX3_tellBench_91 rfl (j := 22) fl_X3_292_2 rfl (ys.length) rfl ?_
            exact z_iret G dX3_tellBench_94 rfl rfl (by obtain rfl : nb = i := (by omega); by_cases e : nb = 0; (rw [e] at hK h1; rw [h1 rfl]; exact hK); (rw [h2 e]; rw [l_tell, if_neg e] at hK; exact hK))
          · exact absurd ((not_congr <| nI_leI (a := nb) (b := i) (by omega) (by omega)).mp c_58) (by omega)
        | succ n ih =>
          intro i ys hi h1 h2 h3
          obtain ⟨q1, q2⟩ := hp2 i (by omega)
          have hl := pipe_len q2 (hp4 _ q2).2
          have hne : ¬ nb = 0 := by omega
          refine z_iload_n G dX3_tellBench_51 rfl rfl rfl ?_
          refine z_aload_n G dX3_tellBench_52 rfl rfl rfl ?_
          refine mz_get G hA dX3_tellBench_53 rfl (j := 7) fl_X3_16_2 rfl ?_
          refine z_iconst G dX3_tellBench_56 rfl (v := 3) (by decide) ?_
          refine mz_wldN G hA dX3_tellBench_57 rfl (3) rfl (by decide) (nb) hp0 ?_
          refine z_icmp_ge G dX3_tellBench_58 rfl (tgt := 90) (by decide) (fun c_58 => ?_) (fun c_58 => ?_)
          · exact absurd ((nI_leI (a := nb) (b := i) (by omega) (by omega)).mp c_58) (by omega)
          · have c_58n := Int32.not_le.mp c_58
            have c_58N := (not_congr <| nI_leI (a := nb) (b := i) (by omega) (by omega)).mp c_58
            refine z_iload_n G dX3_tellBench_61 rfl rfl rfl ?_
            refine z_if_le G dX3_tellBench_62 rfl (tgt := 71) (by decide) (fun c_62 => ?_) (fun c_62 => ?_)
            · have c_62n := Int32.not_lt.mpr c_62
              have c_62N := (nI_leI (a := i) (b := 0) (by omega) (by omega)).mp c_62
              refine z_aload_n G dX3_tellBench_71 rfl rfl rfl ?_
              refine z_aload_n G dX3_tellBench_72 rfl rfl rfl ?_
              refine mz_get G hA dX3_tellBench_73 rfl (j := 7) fl_X3_16_2 rfl ?_
              refine z_bipush G dX3_tellBench_76 rfl (v := 12) (by decide) ?_
              refine z_iload_n G dX3_tellBench_78 rfl rfl rfl ?_
              refine z_iaddN G (12) (i) rfl rfl dX3_tellBench_79 rfl ?_
              refine mz_wldN G hA dX3_tellBench_80 rfl (12 + i) rfl (by omega) ((bnN w i)) q1 ?_
              refine z_V G dX3_tellBench_81 rfl m_X3_putsPipe q3129 (C_X3_putsPipe h0) (by decide) (As := [_]) rfl rfl (Nat.le_of_ble_eq_true rfl) (Nat.zero_le _) (Nat.zero_le _) (mhas hA) (⟨_, _, _, _, _, _, bnN w i, hA, rfl, rfl, q2, hp3 _ q2, hp4 _ q2, (by first | omega | (simp only [List.length_append, List.length_cons, List.length_nil]; omega)), ?_⟩)
              refine z_iinc G dX3_tellBench_84 rfl rfl (nI_1 _) (by decide) (zcat_s rfl) (show Z 87 [_, _] _ _ _ _ from ?_)
              refine z_goto G dX3_tellBench_87 (tgt := 51) (by decide) ?_
              first | exact ih (i + 1) _ (by omega) (fun e => absurd e hne) (fun _ => by rw [h2 hne, l_bench, if_pos (Nat.le_zero.mp c_62N), List.append_nil]) (by simp only [List.length_append, List.length_cons, List.length_nil]; omega) | exact ih (i + 1) _ (by omega) (fun e => absurd e hne) (fun _ => by rw [h2 hne, l_bench, if_neg (fun e => c_62N (Nat.le_of_eq e))]) (by simp only [List.length_append, List.length_cons, List.length_nil]; omega)
            · have c_62n := Int32.not_le.mp c_62
              have c_62N := (not_congr <| nI_leI (a := i) (b := 0) (by omega) (by omega)).mp c_62
              refine z_aload_n G dX3_tellBench_65 rfl rfl rfl ?_
              refine z_bipush G dX3_tellBench_66 rfl (v := 32) (by decide) ?_
              refine z_V G dX3_tellBench_68 rfl m_X3_puts q3125 (C_X3_puts h0) (by decide) (As := [_]) rfl rfl (Nat.le_of_ble_eq_true rfl) (Nat.zero_le _) (Nat.zero_le _) (mhas hA) (⟨_, _, _, _, _, _, 32, hA, rfl, rfl, (by decide), (by first | omega | (simp only [List.length_append, List.length_cons, List.length_nil]; omega)), ?_⟩)
              refine z_aload_n G dX3_tellBench_71 rfl rfl rfl ?_
              refine z_aload_n G dX3_tellBench_72 rfl rfl rfl ?_
              refine mz_get G hA dX3_tellBench_73 rfl (j := 7) fl_X3_16_2 rfl ?_
              refine z_bipush G dX3_tellBench_76 rfl (v := 12) (by decide) ?_
              refine z_iload_n G dX3_tellBench_78 rfl rfl rfl ?_
              refine z_iaddN G (12) (i) rfl rfl dX3_tellBench_79 rfl ?_
              refine mz_wldN G hA dX3_tellBench_80 rfl (12 + i) rfl (by omega) ((bnN w i)) q1 ?_
              refine z_V G dX3_tellBench_81 rfl m_X3_putsPipe q3129 (C_X3_putsPipe h0) (by decide) (As := [_]) rfl rfl (Nat.le_of_ble_eq_true rfl) (Nat.zero_le _) (Nat.zero_le _) (mhas hA) (⟨_, _, _, _, _, _, bnN w i, hA, rfl, rfl, q2, hp3 _ q2, hp4 _ q2, (by first | omega | (simp only [List.length_append, List.length_cons, List.length_nil]; omega)), ?_⟩)
              refine z_iinc G dX3_tellBench_84 rfl rfl (nI_1 _) (by decide) (zcat_s rfl) (show Z 87 [_, _] _ _ _ _ from ?_)
              refine z_goto G dX3_tellBench_87 (tgt := 51) (by decide) ?_
              first | exact ih (i + 1) _ (by omega) (fun e => absurd e hne) (fun _ => by rw [h2 hne, l_bench, if_pos (Nat.le_zero.mp c_62N), List.append_nil]) (by simp only [List.length_append, List.length_cons, List.length_nil]; omega) | exact ih (i + 1) _ (by omega) (fun e => absurd e hne) (fun _ => by rw [h2 hne, l_bench, if_neg (fun e => c_62N (Nat.le_of_eq e))]) (by simp only [List.length_append, List.length_cons, List.length_nil]; omega)
      first | exact L51 nb 0 _ (by omega) (fun _ => rfl) (fun e => absurd c_16N e) (by decide) | exact L51 nb 0 _ (by omega) (fun e => absurd e c_16N) (fun _ => rfl) (by decide)
    · have c_16N := (nI_eq (a := nb) (b := 0) (by omega) (by omega)).mp c_16
      refine z_aload_n G dX3_tellBench_19 rfl rfl rfl ?_
      refine z_bipush G dX3_tellBench_20 rfl (v := 101) (by decide) ?_
      refine z_V G dX3_tellBench_22 rfl m_X3_puts q3125 (C_X3_puts h0) (by decide) (As := [_]) rfl rfl (Nat.le_of_ble_eq_true rfl) (Nat.zero_le _) (Nat.zero_le _) (mhas hA) (⟨_, _, _, _, _, _, 101, hA, rfl, rfl, (by decide), (by first | omega | (simp only [List.length_append, List.length_cons, List.length_nil]; omega)), ?_⟩)
      refine z_aload_n G dX3_tellBench_25 rfl rfl rfl ?_
      refine z_bipush G dX3_tellBench_26 rfl (v := 109) (by decide) ?_
      refine z_V G dX3_tellBench_28 rfl m_X3_puts q3125 (C_X3_puts h0) (by decide) (As := [_]) rfl rfl (Nat.le_of_ble_eq_true rfl) (Nat.zero_le _) (Nat.zero_le _) (mhas hA) (⟨_, _, _, _, _, _, 109, hA, rfl, rfl, (by decide), (by first | omega | (simp only [List.length_append, List.length_cons, List.length_nil]; omega)), ?_⟩)
      refine z_aload_n G dX3_tellBench_31 rfl rfl rfl ?_
      refine z_bipush G dX3_tellBench_32 rfl (v := 112) (by decide) ?_
      refine z_V G dX3_tellBench_34 rfl m_X3_puts q3125 (C_X3_puts h0) (by decide) (As := [_]) rfl rfl (Nat.le_of_ble_eq_true rfl) (Nat.zero_le _) (Nat.zero_le _) (mhas hA) (⟨_, _, _, _, _, _, 112, hA, rfl, rfl, (by decide), (by first | omega | (simp only [List.length_append, List.length_cons, List.length_nil]; omega)), ?_⟩)
      refine z_aload_n G dX3_tellBench_37 rfl rfl rfl ?_
      refine z_bipush G dX3_tellBench_38 rfl (v := 116) (by decide) ?_
      refine z_V G dX3_tellBench_40 rfl m_X3_puts q3125 (C_X3_puts h0) (by decide) (As := [_]) rfl rfl (Nat.le_of_ble_eq_true rfl) (Nat.zero_le _) (Nat.zero_le _) (mhas hA) (⟨_, _, _, _, _, _, 116, hA, rfl, rfl, (by decide), (by first | omega | (simp only [List.length_append, List.length_cons, List.length_nil]; omega)), ?_⟩)
      refine z_aload_n G dX3_tellBench_43 rfl rfl rfl ?_
      refine z_bipush G dX3_tellBench_44 rfl (v := 121) (by decide) ?_
      refine z_V G dX3_tellBench_46 rfl m_X3_puts q3125 (C_X3_puts h0) (by decide) (As := [_]) rfl rfl (Nat.le_of_ble_eq_true rfl) (Nat.zero_le _) (Nat.zero_le _) (mhas hA) (⟨_, _, _, _, _, _, 121, hA, rfl, rfl, (by decide), (by first | omega | (simp only [List.length_append, List.length_cons, List.length_nil]; omega)), ?_⟩)
      refine z_iconst G dX3_tellBench_49 rfl (v := 0) (by decide) ?_
      refine z_istore_n G dX3_tellBench_50 rfl (i := 1) rfl (by decide) (zcat_s rfl) (show Z 51 [_, _] _ _ _ _ from ?_)
      have L51 : ∀ (n i : Nat) (ys : List Nat), i + n = nb → (nb = 0 → ys = l_tell w 0) → (¬ nb = 0 → ys = l_bench w i) → ys.length ≤ 8 * i + 5 → Z 51 [some (.ref (A 0)), some (.int (nI i))] [] (mdl A (lS (upd S 0 0) ys) (lF F ys) w g0) 0 0 := by
        intro n
        induction n with
        | zero =>
          intro i ys hi h1 h2 h3
          refine z_iload_n G dX3_tellBench_51 rfl rfl rfl ?_
          refine z_aload_n G dX3_tellBench_52 rfl rfl rfl ?_
          refine mz_get G hA dX3_tellBench_53 rfl (j := 7) fl_X3_16_2 rfl ?_
          refine z_iconst G dX3_tellBench_56 rfl (v := 3) (by decide) ?_
          refine mz_wldN G hA dX3_tellBench_57 rfl (3) rfl (by decide) (nb) hp0 ?_
          refine z_icmp_ge G dX3_tellBench_58 rfl (tgt := 90) (by decide) (fun c_58 => ?_) (fun c_58 => ?_)
          · have c_58n := Int32.not_lt.mpr c_58
            have c_58N := (nI_leI (a := nb) (b := i) (by omega) (by omega)).mp c_58
            refine z_aload_n G dX3_tellBench_90 rfl rfl rfl ?_
            refine mz_getN G hA dX3_tellBench_91 rfl (j := 22) fl_X3_292_2 rfl (ys.length) rfl ?_
            exact z_iret G dX3_tellBench_94 rfl rfl (by obtain rfl : nb = i := (by omega); by_cases e : nb = 0; (rw [e] at hK h1; rw [h1 rfl]; exact hK); (rw [h2 e]; rw [l_tell, if_neg e] at hK; exact hK))
          · exact absurd ((not_congr <| nI_leI (a := nb) (b := i) (by omega) (by omega)).mp c_58) (by omega)
        | succ n ih =>
          intro i ys hi h1 h2 h3
          obtain ⟨q1, q2⟩ := hp2 i (by omega)
          have hl := pipe_len q2 (hp4 _ q2).2
          have hne : ¬ nb = 0 := by omega
          refine z_iload_n G dX3_tellBench_51 rfl rfl rfl ?_
          refine z_aload_n G dX3_tellBench_52 rfl rfl rfl ?_
          refine mz_get G hA dX3_tellBench_53 rfl (j := 7) fl_X3_16_2 rfl ?_
          refine z_iconst G dX3_tellBench_56 rfl (v := 3) (by decide) ?_
          refine mz_wldN G hA dX3_tellBench_57 rfl (3) rfl (by decide) (nb) hp0 ?_
          refine z_icmp_ge G dX3_tellBench_58 rfl (tgt := 90) (by decide) (fun c_58 => ?_) (fun c_58 => ?_)
          · exact absurd ((nI_leI (a := nb) (b := i) (by omega) (by omega)).mp c_58) (by omega)
          · have c_58n := Int32.not_le.mp c_58
            have c_58N := (not_congr <| nI_leI (a := nb) (b := i) (by omega) (by omega)).mp c_58
            refine z_iload_n G dX3_tellBench_61 rfl rfl rfl ?_
            refine z_if_le G dX3_tellBench_62 rfl (tgt := 71) (by decide) (fun c_62 => ?_) (fun c_62 => ?_)
            · have c_62n := Int32.not_lt.mpr c_62
              have c_62N := (nI_leI (a := i) (b := 0) (by omega) (by omega)).mp c_62
              refine z_aload_n G dX3_tellBench_71 rfl rfl rfl ?_
              refine z_aload_n G dX3_tellBench_72 rfl rfl rfl ?_
              refine mz_get G hA dX3_tellBench_73 rfl (j := 7) fl_X3_16_2 rfl ?_
              refine z_bipush G dX3_tellBench_76 rfl (v := 12) (by decide) ?_
              refine z_iload_n G dX3_tellBench_78 rfl rfl rfl ?_
              refine z_iaddN G (12) (i) rfl rfl dX3_tellBench_79 rfl ?_
              refine mz_wldN G hA dX3_tellBench_80 rfl (12 + i) rfl (by omega) ((bnN w i)) q1 ?_
              refine z_V G dX3_tellBench_81 rfl m_X3_putsPipe q3129 (C_X3_putsPipe h0) (by decide) (As := [_]) rfl rfl (Nat.le_of_ble_eq_true rfl) (Nat.zero_le _) (Nat.zero_le _) (mhas hA) (⟨_, _, _, _, _, _, bnN w i, hA, rfl, rfl, q2, hp3 _ q2, hp4 _ q2, (by first | omega | (simp only [List.length_append, List.length_cons, List.length_nil]; omega)), ?_⟩)
              refine z_iinc G dX3_tellBench_84 rfl rfl (nI_1 _) (by decide) (zcat_s rfl) (show Z 87 [_, _] _ _ _ _ from ?_)
              refine z_goto G dX3_tellBench_87 (tgt := 51) (by decide) ?_
              first | exact ih (i + 1) _ (by omega) (fun e => absurd e hne) (fun _ => by rw [h2 hne, l_bench, if_pos (Nat.le_zero.mp c_62N), List.append_nil]) (by simp only [List.length_append, List.length_cons, List.length_nil]; omega) | exact ih (i + 1) _ (by omega) (fun e => absurd e hne) (fun _ => by rw [h2 hne, l_bench, if_neg (fun e => c_62N (Nat.le_of_eq e))]) (by simp only [List.length_append, List.length_cons, List.length_nil]; omega)
            · have c_62n := Int32.not_le.mp c_62
              have c_62N := (not_congr <| nI_leI (a := i) (b := 0) (by omega) (by omega)).mp c_62
              refine z_aload_n G dX3_tellBench_65 rfl rfl rfl ?_
              refine z_bipush G dX3_tellBench_66 rfl (v := 32) (by decide) ?_
              refine z_V G dX3_tellBench_68 rfl m_X3_puts q3125 (C_X3_puts h0) (by decide) (As := [_]) rfl rfl (Nat.le_of_ble_eq_true rfl) (Nat.zero_le _) (Nat.zero_le _) (mhas hA) (⟨_, _, _, _, _, _, 32, hA, rfl, rfl, (by decide), (by first | omega | (simp only [List.length_append, List.length_cons, List.length_nil]; omega)), ?_⟩)
              refine z_aload_n G dX3_tellBench_71 rfl rfl rfl ?_
              refine z_aload_n G dX3_tellBench_72 rfl rfl rfl ?_
              refine mz_get G hA dX3_tellBench_73 rfl (j := 7) fl_X3_16_2 rfl ?_
              refine z_bipush G dX3_tellBench_76 rfl (v := 12) (by decide) ?_
              refine z_iload_n G dX3_tellBench_78 rfl rfl rfl ?_
              refine z_iaddN G (12) (i) rfl rfl dX3_tellBench_79 rfl ?_
              refine mz_wldN G hA dX3_tellBench_80 rfl (12 + i) rfl (by omega) ((bnN w i)) q1 ?_
              refine z_V G dX3_tellBench_81 rfl m_X3_putsPipe q3129 (C_X3_putsPipe h0) (by decide) (As := [_]) rfl rfl (Nat.le_of_ble_eq_true rfl) (Nat.zero_le _) (Nat.zero_le _) (mhas hA) (⟨_, _, _, _, _, _, bnN w i, hA, rfl, rfl, q2, hp3 _ q2, hp4 _ q2, (by first | omega | (simp only [List.length_append, List.length_cons, List.length_nil]; omega)), ?_⟩)
              refine z_iinc G dX3_tellBench_84 rfl rfl (nI_1 _) (by decide) (zcat_s rfl) (show Z 87 [_, _] _ _ _ _ from ?_)
              refine z_goto G dX3_tellBench_87 (tgt := 51) (by decide) ?_
              first | exact ih (i + 1) _ (by omega) (fun e => absurd e hne) (fun _ => by rw [h2 hne, l_bench, if_pos (Nat.le_zero.mp c_62N), List.append_nil]) (by simp only [List.length_append, List.length_cons, List.length_nil]; omega) | exact ih (i + 1) _ (by omega) (fun e => absurd e hne) (fun _ => by rw [h2 hne, l_bench, if_neg (fun e => c_62N (Nat.le_of_eq e))]) (by simp only [List.length_append, List.length_cons, List.length_nil]; omega)
      first | exact L51 nb 0 _ (by omega) (fun _ => rfl) (fun e => absurd c_16N e) (by decide) | exact L51 nb 0 _ (by omega) (fun e => absurd e c_16N) (fun _ => rfl) (by decide)
def T_X3_tellPerches : List Value → Hp → (Res → Hp → Prop) → Prop := fun av g K => ∃ (A : Nat → Nat) (S : Nat → Int32) (F : Nat → Nat → Int32) (w : Nat → Int32) (g0 : Hp) , mok A ∧ g = mdl A S F w g0 ∧ av = [.ref (A 0)] ∧ K (.inl (some (.int 8))) (mdl A (lS (upd S 0 0) (l_per w 8)) (lF F (l_per w 8)) w g0)
theorem C_X3_tellPerches {l : Launch} {s0 : State} (h0 : St0 l s0) : Ctr l s0 yX3_tellPerches (ws_ yX3_tellPerches cX3_tellPerches 2 (Option.some Jvm.ClassFile.FieldType.int)) 2 0 0 T_X3_tellPerches := by
  refine ctr_of h0 (by decide) ?_ ?_
  · rintro av g K ⟨A, S, F, w, g0, hA, rfl, rfl, hK⟩
    exact Nat.le_of_ble_eq_true rfl
  · rintro Z X av g K G ⟨A, S, F, w, g0, hA, rfl, rfl, hK⟩
    show Z 0 [some (.ref (A 0)), none] [] _ _ _
    refine z_aload_n G dX3_tellPerches_0 rfl rfl rfl ?_
    refine z_iconst G dX3_tellPerches_1 rfl (v := 0) (by decide) ?_
    refine mz_put G hA dX3_tellPerches_2 rfl (j := 0) fl_X3_42_2p rfl rfl (by decide) rfl ?_
    refine z_aload_n G dX3_tellPerches_5 rfl rfl rfl ?_
    refine z_iconst G dX3_tellPerches_6 rfl (v := 0) (by decide) ?_
    refine mz_put G hA dX3_tellPerches_7 rfl (j := 22) fl_X3_292_2p rfl rfl (by decide) rfl ?_
    rw [← lF_0 F]
    show Z 10 _ _ (mdl A (lS (upd S 0 0) []) (lF F []) w g0) _ _
    refine z_iconst G dX3_tellPerches_10 rfl (v := 0) (by decide) ?_
    refine z_istore_n G dX3_tellPerches_11 rfl (i := 1) rfl (by decide) (zcat_s rfl) (show Z 12 [_, _] _ _ _ _ from ?_)
    have L12 : ∀ (n i : Nat), i + n = 8 → Z 12 [some (.ref (A 0)), some (.int (nI i))] [] (mdl A (lS (upd S 0 0) (l_per w i)) (lF F (l_per w i)) w g0) 0 0 := by
      intro n
      induction n with
      | zero =>
        intro i hi
        refine z_iload_n G dX3_tellPerches_12 rfl rfl rfl ?_
        refine z_bipush G dX3_tellPerches_13 rfl (v := 8) (by decide) ?_
        refine z_icmp_ge G dX3_tellPerches_15 rfl (tgt := 43) (by decide) (fun c_15 => ?_) (fun c_15 => ?_)
        · have c_15n := Int32.not_lt.mpr c_15
          have c_15N := (nI_leI (a := 8) (b := i) (by omega) (by omega)).mp c_15
          obtain rfl : i = 8 := by omega
          refine z_aload_n G dX3_tellPerches_43 rfl rfl rfl ?_
          refine mz_getN G hA dX3_tellPerches_44 rfl (j := 22) fl_X3_292_2 rfl (8) rfl ?_
          exact z_iret G dX3_tellPerches_47 rfl rfl (hK)
        · exact absurd ((not_congr <| nI_leI (a := 8) (b := i) (by omega) (by omega)).mp c_15) (by omega)
      | succ n ih =>
        intro i hi
        have hl := per_len w i
        refine z_iload_n G dX3_tellPerches_12 rfl rfl rfl ?_
        refine z_bipush G dX3_tellPerches_13 rfl (v := 8) (by decide) ?_
        refine z_icmp_ge G dX3_tellPerches_15 rfl (tgt := 43) (by decide) (fun c_15 => ?_) (fun c_15 => ?_)
        · exact absurd ((nI_leI (a := 8) (b := i) (by omega) (by omega)).mp c_15) (by omega)
        · have c_15n := Int32.not_le.mp c_15
          have c_15N := (not_congr <| nI_leI (a := 8) (b := i) (by omega) (by omega)).mp c_15
          refine z_aload_n G dX3_tellPerches_18 rfl rfl rfl ?_
          refine z_aload_n G dX3_tellPerches_19 rfl rfl rfl ?_
          refine z_iload_n G dX3_tellPerches_20 rfl rfl rfl ?_
          refine z_V G dX3_tellPerches_21 rfl m_X3_isTaken q2901 (C_X3_isTaken h0) (by decide) (As := [_]) rfl rfl (Nat.le_of_ble_eq_true rfl) (Nat.zero_le _) (Nat.zero_le _) (mhas hA) (⟨_, _, _, _, _, _, hA, rfl, rfl, ?_⟩)
          refine z_if_eq G dX3_tellPerches_24 rfl (tgt := 32) (by decide) (fun c_24 => ?_) (fun c_24 => ?_)
          · have c_24b := bI_f c_24
            refine z_bipush G dX3_tellPerches_32 rfl (v := 46) (by decide) ?_
            refine z_V G dX3_tellPerches_34 rfl m_X3_puts q3125 (C_X3_puts h0) (by decide) (As := [_]) rfl rfl (Nat.le_of_ble_eq_true rfl) (Nat.zero_le _) (Nat.zero_le _) (mhas hA) (⟨_, _, _, _, _, _, 46, hA, rfl, rfl, (by decide), (by omega), ?_⟩)
            refine z_iinc G dX3_tellPerches_37 rfl rfl (nI_1 _) (by decide) (zcat_s rfl) (show Z 40 [_, _] _ _ _ _ from ?_)
            refine z_goto G dX3_tellPerches_40 (tgt := 12) (by decide) ?_
            first | exact (by have h := ih (i + 1) (by omega); rw [l_per, if_pos c_24b] at h; exact h) | exact (by have h := ih (i + 1) (by omega); rw [l_per, if_neg (by rw [c_24b]; decide)] at h; exact h)
          · have c_24b := bI_t c_24
            refine z_bipush G dX3_tellPerches_27 rfl (v := 112) (by decide) ?_
            refine z_goto G dX3_tellPerches_29 (tgt := 34) (by decide) ?_
            refine z_V G dX3_tellPerches_34 rfl m_X3_puts q3125 (C_X3_puts h0) (by decide) (As := [_]) rfl rfl (Nat.le_of_ble_eq_true rfl) (Nat.zero_le _) (Nat.zero_le _) (mhas hA) (⟨_, _, _, _, _, _, 112, hA, rfl, rfl, (by decide), (by omega), ?_⟩)
            refine z_iinc G dX3_tellPerches_37 rfl rfl (nI_1 _) (by decide) (zcat_s rfl) (show Z 40 [_, _] _ _ _ _ from ?_)
            refine z_goto G dX3_tellPerches_40 (tgt := 12) (by decide) ?_
            first | exact (by have h := ih (i + 1) (by omega); rw [l_per, if_pos c_24b] at h; exact h) | exact (by have h := ih (i + 1) (by omega); rw [l_per, if_neg (by rw [c_24b]; decide)] at h; exact h)
    exact L12 8 0 rfl
def T_X3_account : List Value → Hp → (Res → Hp → Prop) → Prop := fun av g K => ∃ (A : Nat → Nat) (S : Nat → Int32) (F : Nat → Nat → Int32) (w : Nat → Int32) (g0 : Hp) (x : Int32) (h np : Nat), mok A ∧ g = mdl A S F w g0 ∧ av = [.ref (A 0), .int x] ∧ w 0 = nI h ∧ h < 2 ^ 30 ∧ w 2 = nI np ∧ np ≤ 10 ∧ K (.inl (some (.int (q_acc w S x h np).2))) (mdl A (upd S 0 (q_acc w S x h np).1) F w g0)
theorem C_X3_account {l : Launch} {s0 : State} (h0 : St0 l s0) : Ctr l s0 yX3_account (ws_ yX3_account cX3_account 2 (Option.some Jvm.ClassFile.FieldType.int)) 4 0 0 T_X3_account := by
  refine ctr_of h0 (by decide) ?_ ?_
  · rintro av g K ⟨A, S, F, w, g0, x, h, np, hA, rfl, rfl, hp0, hp1, hp2, hp3, hK⟩
    exact Nat.le_of_ble_eq_true rfl
  · rintro Z X av g K G ⟨A, S, F, w, g0, x, h, np, hA, rfl, rfl, hp0, hp1, hp2, hp3, hK⟩
    show Z 0 [some (.ref (A 0)), some (.int x)] [] _ _ _
    refine z_aload_n G dX3_account_0 rfl rfl rfl ?_
    refine z_iconst G dX3_account_1 rfl (v := 0) (by decide) ?_
    refine mz_put G hA dX3_account_2 rfl (j := 0) fl_X3_42_2p rfl rfl (by decide) rfl ?_
    refine z_iload_n G dX3_account_5 rfl rfl rfl ?_
    rcases sw17 x with rfl | rfl | rfl | rfl | rfl | rfl | rfl | rfl | rfl | rfl | rfl | rfl | rfl | rfl | rfl | rfl | rfl | hsw
    · refine z_tableIn G dX3_account_6 (by decide) (by decide) (off := 82) rfl (tgt := 88) (by decide) ?_
      refine z_aload_n G dX3_account_88 rfl rfl rfl ?_
      refine mz_get G hA dX3_account_89 rfl (j := 7) fl_X3_16_2 rfl ?_
      refine z_iconst G dX3_account_92 rfl (v := 0) (by decide) ?_
      refine mz_wld G hA dX3_account_93 rfl (0) rfl (by decide) ?_
      exact z_iret G dX3_account_94 rfl rfl (by first | (rw [upd_upd]; simpa [q_acc, ] using hK) | simpa [q_acc, ] using hK | simpa [q_acc, upd_n, ] using hK)
    · refine z_tableIn G dX3_account_6 (by decide) (by decide) (off := 89) rfl (tgt := 95) (by decide) ?_
      refine z_aload_n G dX3_account_95 rfl rfl rfl ?_
      refine z_V G dX3_account_96 rfl m_X3_hourOfDay q2787 (C_X3_hourOfDay h0) (by decide) (As := []) rfl rfl (Nat.le_of_ble_eq_true rfl) (Nat.zero_le _) (Nat.zero_le _) (mhas hA) (⟨_, _, _, _, _, _, hA, rfl, rfl, (by first | assumption | decide | omega), (by first | assumption | decide | omega), ?_⟩)
      exact z_iret G dX3_account_99 rfl rfl (by first | (rw [upd_upd]; simpa [q_acc, ] using hK) | simpa [q_acc, ] using hK | simpa [q_acc, upd_n, ] using hK)
    · refine z_tableIn G dX3_account_6 (by decide) (by decide) (off := 94) rfl (tgt := 100) (by decide) ?_
      refine z_aload_n G dX3_account_100 rfl rfl rfl ?_
      refine mz_get G hA dX3_account_101 rfl (j := 7) fl_X3_16_2 rfl ?_
      refine z_iconst G dX3_account_104 rfl (v := 1) (by decide) ?_
      refine mz_wld G hA dX3_account_105 rfl (1) rfl (by decide) ?_
      exact z_iret G dX3_account_106 rfl rfl (by first | (rw [upd_upd]; simpa [q_acc, ] using hK) | simpa [q_acc, ] using hK | simpa [q_acc, upd_n, ] using hK)
    · refine z_tableIn G dX3_account_6 (by decide) (by decide) (off := 101) rfl (tgt := 107) (by decide) ?_
      refine z_aload_n G dX3_account_107 rfl rfl rfl ?_
      refine mz_get G hA dX3_account_108 rfl (j := 7) fl_X3_16_2 rfl ?_
      refine z_iconst G dX3_account_111 rfl (v := 2) (by decide) ?_
      refine mz_wld G hA dX3_account_112 rfl (2) rfl (by decide) ?_
      exact z_iret G dX3_account_113 rfl rfl (by first | (rw [upd_upd]; simpa [q_acc, ] using hK) | simpa [q_acc, ] using hK | simpa [q_acc, upd_n, ] using hK)
    · refine z_tableIn G dX3_account_6 (by decide) (by decide) (off := 108) rfl (tgt := 114) (by decide) ?_
      refine z_aload_n G dX3_account_114 rfl rfl rfl ?_
      refine z_V G dX3_account_115 rfl m_X3_drawing q3149 (C_X3_drawing h0) (by decide) (As := []) rfl rfl (Nat.le_of_ble_eq_true rfl) (Nat.zero_le _) (Nat.zero_le _) (mhas hA) (⟨_, _, _, _, _, _, hA, rfl, rfl, (by first | assumption | decide | omega), (by first | assumption | decide | omega), ?_⟩)
      exact z_iret G dX3_account_118 rfl rfl (by first | (rw [upd_upd]; simpa [q_acc, ] using hK) | simpa [q_acc, ] using hK | simpa [q_acc, upd_n, ] using hK)
    · refine z_tableIn G dX3_account_6 (by decide) (by decide) (off := 113) rfl (tgt := 119) (by decide) ?_
      refine z_aload_n G dX3_account_119 rfl rfl rfl ?_
      refine mz_get G hA dX3_account_120 rfl (j := 7) fl_X3_16_2 rfl ?_
      refine z_iconst G dX3_account_123 rfl (v := 3) (by decide) ?_
      refine mz_wld G hA dX3_account_124 rfl (3) rfl (by decide) ?_
      exact z_iret G dX3_account_125 rfl rfl (by first | (rw [upd_upd]; simpa [q_acc, ] using hK) | simpa [q_acc, ] using hK | simpa [q_acc, upd_n, ] using hK)
    · refine z_tableIn G dX3_account_6 (by decide) (by decide) (off := 120) rfl (tgt := 126) (by decide) ?_
      refine z_aload_n G dX3_account_126 rfl rfl rfl ?_
      refine mz_get G hA dX3_account_127 rfl (j := 7) fl_X3_16_2 rfl ?_
      refine z_iload_n G dX3_account_130 rfl rfl rfl ?_
      refine z_iconst G dX3_account_131 rfl (v := 1) (by decide) ?_
      refine z_isubN G (6) (1) rfl rfl (by decide) dX3_account_132 rfl ?_
      refine mz_wld G hA dX3_account_133 rfl (6 - 1) rfl (by omega) ?_
      exact z_iret G dX3_account_134 rfl rfl (by first | (rw [upd_upd]; simpa [q_acc, ] using hK) | simpa [q_acc, ] using hK | simpa [q_acc, upd_n, ] using hK)
    · refine z_tableIn G dX3_account_6 (by decide) (by decide) (off := 120) rfl (tgt := 126) (by decide) ?_
      refine z_aload_n G dX3_account_126 rfl rfl rfl ?_
      refine mz_get G hA dX3_account_127 rfl (j := 7) fl_X3_16_2 rfl ?_
      refine z_iload_n G dX3_account_130 rfl rfl rfl ?_
      refine z_iconst G dX3_account_131 rfl (v := 1) (by decide) ?_
      refine z_isubN G (7) (1) rfl rfl (by decide) dX3_account_132 rfl ?_
      refine mz_wld G hA dX3_account_133 rfl (7 - 1) rfl (by omega) ?_
      exact z_iret G dX3_account_134 rfl rfl (by first | (rw [upd_upd]; simpa [q_acc, ] using hK) | simpa [q_acc, ] using hK | simpa [q_acc, upd_n, ] using hK)
    · refine z_tableIn G dX3_account_6 (by decide) (by decide) (off := 120) rfl (tgt := 126) (by decide) ?_
      refine z_aload_n G dX3_account_126 rfl rfl rfl ?_
      refine mz_get G hA dX3_account_127 rfl (j := 7) fl_X3_16_2 rfl ?_
      refine z_iload_n G dX3_account_130 rfl rfl rfl ?_
      refine z_iconst G dX3_account_131 rfl (v := 1) (by decide) ?_
      refine z_isubN G (8) (1) rfl rfl (by decide) dX3_account_132 rfl ?_
      refine mz_wld G hA dX3_account_133 rfl (8 - 1) rfl (by omega) ?_
      exact z_iret G dX3_account_134 rfl rfl (by first | (rw [upd_upd]; simpa [q_acc, ] using hK) | simpa [q_acc, ] using hK | simpa [q_acc, upd_n, ] using hK)
    · refine z_tableIn G dX3_account_6 (by decide) (by decide) (off := 129) rfl (tgt := 135) (by decide) ?_
      refine z_aload_n G dX3_account_135 rfl rfl rfl ?_
      refine z_V G dX3_account_136 rfl m_X3_piecesNow q2775 (C_X3_piecesNow h0) (by decide) (As := []) rfl rfl (Nat.le_of_ble_eq_true rfl) (Nat.zero_le _) (Nat.zero_le _) (mhas hA) (⟨_, _, _, _, _, hA, rfl, rfl, ?_⟩)
      exact z_iret G dX3_account_139 rfl rfl (by first | (rw [upd_upd]; simpa [q_acc, ] using hK) | simpa [q_acc, ] using hK | simpa [q_acc, upd_n, ] using hK)
    · refine z_tableIn G dX3_account_6 (by decide) (by decide) (off := 134) rfl (tgt := 140) (by decide) ?_
      refine z_aload_n G dX3_account_140 rfl rfl rfl ?_
      refine z_V G dX3_account_141 rfl m_X3_inchesNow q3153 (C_X3_inchesNow h0) (by decide) (As := []) rfl rfl (Nat.le_of_ble_eq_true rfl) (Nat.zero_le _) (Nat.zero_le _) (mhas hA) (⟨_, _, _, _, _, hA, rfl, rfl, ?_⟩)
      exact z_iret G dX3_account_144 rfl rfl (by first | (rw [upd_upd]; simpa [q_acc, ] using hK) | simpa [q_acc, ] using hK | simpa [q_acc, upd_n, ] using hK)
    · refine z_tableIn G dX3_account_6 (by decide) (by decide) (off := 139) rfl (tgt := 145) (by decide) ?_
      refine z_aload_n G dX3_account_145 rfl rfl rfl ?_
      refine mz_get G hA dX3_account_146 rfl (j := 7) fl_X3_16_2 rfl ?_
      refine z_bipush G dX3_account_149 rfl (v := 8) (by decide) ?_
      refine mz_wld G hA dX3_account_151 rfl (8) rfl (by decide) ?_
      exact z_iret G dX3_account_152 rfl rfl (by first | (rw [upd_upd]; simpa [q_acc, ] using hK) | simpa [q_acc, ] using hK | simpa [q_acc, upd_n, ] using hK)
    · refine z_tableIn G dX3_account_6 (by decide) (by decide) (off := 147) rfl (tgt := 153) (by decide) ?_
      refine z_aload_n G dX3_account_153 rfl rfl rfl ?_
      refine z_V G dX3_account_154 rfl m_X3_parrots q2905 (C_X3_parrots h0) (by decide) (As := []) rfl rfl (Nat.le_of_ble_eq_true rfl) (Nat.zero_le _) (Nat.zero_le _) (mhas hA) (⟨_, _, _, _, _, hA, rfl, rfl, ?_⟩)
      exact z_iret G dX3_account_157 rfl rfl (by first | (rw [upd_upd]; simpa [q_acc, ] using hK) | simpa [q_acc, ] using hK | simpa [q_acc, upd_n, ] using hK)
    · refine z_tableIn G dX3_account_6 (by decide) (by decide) (off := 152) rfl (tgt := 158) (by decide) ?_
      refine z_aload_n G dX3_account_158 rfl rfl rfl ?_
      refine mz_get G hA dX3_account_159 rfl (j := 7) fl_X3_16_2 rfl ?_
      refine z_iload_n G dX3_account_162 rfl rfl rfl ?_
      refine z_iconst G dX3_account_163 rfl (v := 4) (by decide) ?_
      refine z_isubN G (13) (4) rfl rfl (by decide) dX3_account_164 rfl ?_
      refine mz_wld G hA dX3_account_165 rfl (13 - 4) rfl (by omega) ?_
      exact z_iret G dX3_account_166 rfl rfl (by first | (rw [upd_upd]; simpa [q_acc, ] using hK) | simpa [q_acc, ] using hK | simpa [q_acc, upd_n, ] using hK)
    · refine z_tableIn G dX3_account_6 (by decide) (by decide) (off := 152) rfl (tgt := 158) (by decide) ?_
      refine z_aload_n G dX3_account_158 rfl rfl rfl ?_
      refine mz_get G hA dX3_account_159 rfl (j := 7) fl_X3_16_2 rfl ?_
      refine z_iload_n G dX3_account_162 rfl rfl rfl ?_
      refine z_iconst G dX3_account_163 rfl (v := 4) (by decide) ?_
      refine z_isubN G (14) (4) rfl rfl (by decide) dX3_account_164 rfl ?_
      refine mz_wld G hA dX3_account_165 rfl (14 - 4) rfl (by omega) ?_
      exact z_iret G dX3_account_166 rfl rfl (by first | (rw [upd_upd]; simpa [q_acc, ] using hK) | simpa [q_acc, ] using hK | simpa [q_acc, upd_n, ] using hK)
    · refine z_tableIn G dX3_account_6 (by decide) (by decide) (off := 161) rfl (tgt := 167) (by decide) ?_
      refine z_aload_n G dX3_account_167 rfl rfl rfl ?_
      refine mz_get G hA dX3_account_168 rfl (j := 15) fl_X3_243_2 rfl ?_
      exact z_iret G dX3_account_171 rfl rfl (by first | (rw [upd_upd]; simpa [q_acc, ] using hK) | simpa [q_acc, ] using hK | simpa [q_acc, upd_n, ] using hK)
    · refine z_tableIn G dX3_account_6 (by decide) (by decide) (off := 166) rfl (tgt := 172) (by decide) ?_
      refine z_aload_n G dX3_account_172 rfl rfl rfl ?_
      refine mz_get G hA dX3_account_173 rfl (j := 11) fl_X3_65_2 rfl ?_
      exact z_iret G dX3_account_176 rfl rfl (by first | (rw [upd_upd]; simpa [q_acc, ] using hK) | simpa [q_acc, ] using hK | simpa [q_acc, upd_n, ] using hK)
    · refine z_tableOut G dX3_account_6 hsw.1 (tgt := 177) (by decide) ?_
      refine z_aload_n G dX3_account_177 rfl rfl rfl ?_
      refine z_iconst G dX3_account_178 rfl (v := 1) (by decide) ?_
      refine z_V G dX3_account_179 rfl m_X3_fails q2683 (C_X3_fails h0) (by decide) (As := [_]) rfl rfl (Nat.le_of_ble_eq_true rfl) (Nat.zero_le _) (Nat.zero_le _) (mhas hA) (⟨_, _, _, _, _, _, hA, rfl, rfl, ?_⟩)
      exact z_iret G dX3_account_182 rfl rfl (by first | (rw [upd_upd]; simpa [q_acc, hsw] using hK) | simpa [q_acc, hsw] using hK | simpa [q_acc, upd_n, hsw] using hK)
