/-! THE REFERENCE: reading -/
def T_X3_sign : List Value → Hp → (Res → Hp → Prop) → Prop := fun av g K => ∃ (A : Nat → Nat) (S : Nat → Int32) (F : Nat → Nat → Int32) (w : Nat → Int32) (g0 : Hp) (t : Tx) (len : Nat) , mok A ∧ g = mdl A (tS S t) (tF F t) w g0 ∧ av = [.ref (A 0)] ∧ S 15 = nI len ∧ len ≤ 60 ∧ t.1 ≤ len ∧ K (.inl (some (.int (tx_sg (F 14) len t)))) (mdl A (tS S t) (tF F t) w g0)
theorem C_X3_sign {l : Launch} {s0 : State} (h0 : St0 l s0) : Ctr l s0 yX3_sign (ws_ yX3_sign cX3_sign 1 (Option.some Jvm.ClassFile.FieldType.int)) 1 0 0 T_X3_sign := by
  refine ctr_of h0 (by decide) ?_ ?_
  · rintro av g K ⟨A, S, F, w, g0, t, len, hA, rfl, rfl, hl0, hl1, hl2, hK⟩
    exact Nat.le_of_ble_eq_true rfl
  · rintro Z X av g K G ⟨A, S, F, w, g0, t, len, hA, rfl, rfl, hl0, hl1, hl2, hK⟩
    show Z 0 [some (.ref (A 0))] [] _ _ _
    refine z_aload_n G dX3_sign_0 rfl rfl rfl ?_
    refine mz_getN G hA dX3_sign_1 rfl (j := 16) fl_X3_246_2 rfl (t.1) rfl ?_
    refine z_aload_n G dX3_sign_4 rfl rfl rfl ?_
    refine mz_getN G hA dX3_sign_5 rfl (j := 15) fl_X3_243_2 rfl (len) hl0 ?_
    refine z_icmp_ge G dX3_sign_8 rfl (tgt := 23) (by decide) (fun c_8 => ?_) (fun c_8 => ?_)
    · have c_8n := Int32.not_lt.mpr c_8
      have c_8N := (nI_leI (a := len) (b := t.1) (by omega) (by omega)).mp c_8
      refine z_iconst G dX3_sign_23 rfl (v := (-1)) (by decide) ?_
      exact z_iret G dX3_sign_24 rfl rfl (by first | (rw [tx_sg, if_pos c_8N] at hK; exact hK) | (rw [tx_sg, if_neg c_8N] at hK; exact hK))
    · have c_8n := Int32.not_le.mp c_8
      have c_8N := (not_congr <| nI_leI (a := len) (b := t.1) (by omega) (by omega)).mp c_8
      refine z_aload_n G dX3_sign_11 rfl rfl rfl ?_
      refine mz_get G hA dX3_sign_12 rfl (j := 14) fl_X3_28_2 rfl ?_
      refine z_aload_n G dX3_sign_15 rfl rfl rfl ?_
      refine mz_getN G hA dX3_sign_16 rfl (j := 16) fl_X3_246_2 rfl (t.1) rfl ?_
      refine mz_cld G hA 14 (by decide) rfl dX3_sign_19 rfl (t.1) rfl (by omega) (by decide) ?_
      refine z_goto G dX3_sign_20 (tgt := 24) (by decide) ?_
      exact z_iret G dX3_sign_24 rfl rfl (by first | (rw [tx_sg, if_pos c_8N] at hK; exact hK) | (rw [tx_sg, if_neg c_8N] at hK; exact hK))
def T_X3_reads : List Value → Hp → (Res → Hp → Prop) → Prop := fun av g K => ∃ (A : Nat → Nat) (S : Nat → Int32) (F : Nat → Nat → Int32) (w : Nat → Int32) (g0 : Hp) (t : Tx) (len : Nat) (c : Int32), mok A ∧ g = mdl A (tS S t) (tF F t) w g0 ∧ av = [.ref (A 0), .int c] ∧ S 15 = nI len ∧ len ≤ 60 ∧ t.1 ≤ len ∧ K (.inl (some (.int (bI (tx_rd (F 14) len c t).1)))) (mdl A (tS S (tx_rd (F 14) len c t).2) (tF F (tx_rd (F 14) len c t).2) w g0)
theorem C_X3_reads {l : Launch} {s0 : State} (h0 : St0 l s0) : Ctr l s0 yX3_reads (ws_ yX3_reads cX3_reads 2 (Option.some Jvm.ClassFile.FieldType.boolean)) 2 0 0 T_X3_reads := by
  refine ctr_of h0 (by decide) ?_ ?_
  · rintro av g K ⟨A, S, F, w, g0, t, len, c, hA, rfl, rfl, hl0, hl1, hl2, hK⟩
    exact Nat.le_of_ble_eq_true rfl
  · rintro Z X av g K G ⟨A, S, F, w, g0, t, len, c, hA, rfl, rfl, hl0, hl1, hl2, hK⟩
    show Z 0 [some (.ref (A 0)), some (.int c)] [] _ _ _
    refine z_aload_n G dX3_reads_0 rfl rfl rfl ?_
    refine z_V G dX3_reads_1 rfl m_X3_sign q3081 (C_X3_sign h0) (by decide) (As := []) rfl rfl (Nat.le_of_ble_eq_true rfl) (Nat.zero_le _) (Nat.zero_le _) (mhas hA) (⟨_, _, _, _, _, _, _, hA, rfl, rfl, hl0, hl1, (by repeat first | assumption | apply txdg_l | refine txis_l (by decide) ?_ | refine txrd_l (by decide) ?_ | apply txnu_l), ?_⟩)
    refine z_iload_n G dX3_reads_4 rfl rfl rfl ?_
    refine z_icmp_eq G dX3_reads_5 rfl (tgt := 10) (by decide) (fun c_5 => ?_) (fun c_5 => ?_)
    · refine z_aload_n G dX3_reads_10 rfl rfl rfl ?_
      refine z_dup G dX3_reads_11 rfl rfl ?_
      refine mz_getN G hA dX3_reads_12 rfl (j := 16) fl_X3_246_2 rfl (t.1) rfl ?_
      refine z_iconst G dX3_reads_15 rfl (v := 1) (by decide) ?_
      refine z_iaddN G (t.1) (1) rfl rfl dX3_reads_16 rfl ?_
      refine mz_put G hA dX3_reads_17 rfl (j := 16) fl_X3_246_2p rfl rfl (by decide) rfl ?_
      refine z_iconst G dX3_reads_20 rfl (v := 1) (by decide) ?_
      exact z_iret G dX3_reads_21 rfl (by first | rfl | exact bI_nar _) (by rw [tx_rd, if_pos c_5] at hK; rw [tS_at rfl]; exact hK)
    · refine z_iconst G dX3_reads_8 rfl (v := 0) (by decide) ?_
      exact z_iret G dX3_reads_9 rfl (by first | rfl | exact bI_nar _) (by rw [tx_rd, if_neg c_5] at hK; exact hK)
def T_X3_isDigit : List Value → Hp → (Res → Hp → Prop) → Prop := fun av g K => ∃ (A : Nat → Nat) (S : Nat → Int32) (F : Nat → Nat → Int32) (w : Nat → Int32) (g0 : Hp) (t : Tx) (len : Nat) , mok A ∧ g = mdl A (tS S t) (tF F t) w g0 ∧ av = [.ref (A 0)] ∧ S 15 = nI len ∧ len ≤ 60 ∧ t.1 ≤ len ∧ K (.inl (some (.int (bI (btw (tx_sg (F 14) len t) 48 57))))) (mdl A (tS S t) (tF F t) w g0)
theorem C_X3_isDigit {l : Launch} {s0 : State} (h0 : St0 l s0) : Ctr l s0 yX3_isDigit (ws_ yX3_isDigit cX3_isDigit 1 (Option.some Jvm.ClassFile.FieldType.boolean)) 2 0 0 T_X3_isDigit := by
  refine ctr_of h0 (by decide) ?_ ?_
  · rintro av g K ⟨A, S, F, w, g0, t, len, hA, rfl, rfl, hl0, hl1, hl2, hK⟩
    exact Nat.le_of_ble_eq_true rfl
  · rintro Z X av g K G ⟨A, S, F, w, g0, t, len, hA, rfl, rfl, hl0, hl1, hl2, hK⟩
    show Z 0 [some (.ref (A 0))] [] _ _ _
    refine z_aload_n G dX3_isDigit_0 rfl rfl rfl ?_
    refine z_V G dX3_isDigit_1 rfl m_X3_sign q3081 (C_X3_sign h0) (by decide) (As := []) rfl rfl (Nat.le_of_ble_eq_true rfl) (Nat.zero_le _) (Nat.zero_le _) (mhas hA) (⟨_, _, _, _, _, _, _, hA, rfl, rfl, hl0, hl1, (by repeat first | assumption | apply txdg_l | refine txis_l (by decide) ?_ | refine txrd_l (by decide) ?_ | apply txnu_l), ?_⟩)
    refine z_bipush G dX3_isDigit_4 rfl (v := 48) (by decide) ?_
    refine z_bipush G dX3_isDigit_6 rfl (v := 57) (by decide) ?_
    refine z_S G dX3_isDigit_8 rfl m_X3_isBetween q2668 (C_X3_isBetween h0) (by decide) (As := [_, _, _]) rfl rfl (Nat.le_of_ble_eq_true rfl) (Nat.zero_le _) (Nat.zero_le _) (⟨_, _, _, rfl, ?_⟩)
    exact z_iret G dX3_isDigit_11 rfl (by first | rfl | exact bI_nar _) (hK)
def T_X3_readsDigit : List Value → Hp → (Res → Hp → Prop) → Prop := fun av g K => ∃ (A : Nat → Nat) (S : Nat → Int32) (F : Nat → Nat → Int32) (w : Nat → Int32) (g0 : Hp) (t : Tx) (len : Nat) (k : Nat), mok A ∧ g = mdl A (tS S t) (tF F t) w g0 ∧ av = [.ref (A 0), .int (nI k)] ∧ S 15 = nI len ∧ len ≤ 60 ∧ t.1 ≤ len ∧ k < 2 ∧ K (.inl (some (.int (bI (tx_dg (F 14) len k t).1)))) (mdl A (tS S (tx_dg (F 14) len k t).2) (tF F (tx_dg (F 14) len k t).2) w g0)
theorem C_X3_readsDigit {l : Launch} {s0 : State} (h0 : St0 l s0) : Ctr l s0 yX3_readsDigit (ws_ yX3_readsDigit cX3_readsDigit 2 (Option.some Jvm.ClassFile.FieldType.boolean)) 3 0 0 T_X3_readsDigit := by
  refine ctr_of h0 (by decide) ?_ ?_
  · rintro av g K ⟨A, S, F, w, g0, t, len, k, hA, rfl, rfl, hl0, hl1, hl2, hp0, hK⟩
    exact Nat.le_of_ble_eq_true rfl
  · rintro Z X av g K G ⟨A, S, F, w, g0, t, len, k, hA, rfl, rfl, hl0, hl1, hl2, hp0, hK⟩
    show Z 0 [some (.ref (A 0)), some (.int (nI k))] [] _ _ _
    refine z_aload_n G dX3_readsDigit_0 rfl rfl rfl ?_
    refine z_V G dX3_readsDigit_1 rfl m_X3_isDigit q3089 (C_X3_isDigit h0) (by decide) (As := []) rfl rfl (Nat.le_of_ble_eq_true rfl) (Nat.zero_le _) (Nat.zero_le _) (mhas hA) (⟨_, _, _, _, _, _, _, hA, rfl, rfl, hl0, hl1, (by repeat first | assumption | apply txdg_l | refine txis_l (by decide) ?_ | refine txrd_l (by decide) ?_ | apply txnu_l), ?_⟩)
    refine z_if_ne G dX3_readsDigit_4 rfl (tgt := 9) (by decide) (fun c_4 => ?_) (fun c_4 => ?_)
    · have c_4b := bI_t c_4
      have ha : t.1 < len := by rcases Nat.lt_or_ge t.1 len with q | q; exact q; exact absurd (show btw (-1) 48 57 = true from by rw [tx_sg, if_pos q] at c_4b; exact c_4b) (by decide)
      refine z_aload_n G dX3_readsDigit_9 rfl rfl rfl ?_
      refine mz_get G hA dX3_readsDigit_10 rfl (j := 18) fl_X3_36_2 rfl ?_
      refine z_iload_n G dX3_readsDigit_13 rfl rfl rfl ?_
      refine z_aload_n G dX3_readsDigit_14 rfl rfl rfl ?_
      refine mz_get G hA dX3_readsDigit_15 rfl (j := 14) fl_X3_28_2 rfl ?_
      refine z_aload_n G dX3_readsDigit_18 rfl rfl rfl ?_
      refine mz_getN G hA dX3_readsDigit_19 rfl (j := 16) fl_X3_246_2 rfl (t.1) rfl ?_
      refine mz_cld G hA 14 (by decide) rfl dX3_readsDigit_22 rfl (t.1) rfl (by omega) (by decide) ?_
      refine z_bipush G dX3_readsDigit_23 rfl (v := 48) (by decide) ?_
      refine z_isub G dX3_readsDigit_25 rfl ?_
      refine mz_ist G hA 18 (by decide) (by decide) (fun _ => rfl) dX3_readsDigit_26 rfl (k) rfl (by omega) (by decide) ?_
      refine z_aload_n G dX3_readsDigit_27 rfl rfl rfl ?_
      refine z_dup G dX3_readsDigit_28 rfl rfl ?_
      refine mz_getN G hA dX3_readsDigit_29 rfl (j := 16) fl_X3_246_2 rfl (t.1) rfl ?_
      refine z_iconst G dX3_readsDigit_32 rfl (v := 1) (by decide) ?_
      refine z_iaddN G (t.1) (1) rfl rfl dX3_readsDigit_33 rfl ?_
      refine mz_put G hA dX3_readsDigit_34 rfl (j := 16) fl_X3_246_2p rfl rfl (by decide) rfl ?_
      refine z_iconst G dX3_readsDigit_37 rfl (v := 1) (by decide) ?_
      exact z_iret G dX3_readsDigit_38 rfl (by first | rfl | exact bI_nar _) (by rw [tx_dg, if_pos c_4b] at hK; rw [tF_nu (a := t.1 + 1) (v := t.2.1), tS_at rfl]; exact hK)
    · have c_4b := bI_f c_4
      refine z_iconst G dX3_readsDigit_7 rfl (v := 0) (by decide) ?_
      exact z_iret G dX3_readsDigit_8 rfl (by first | rfl | exact bI_nar _) (by rw [tx_dg, if_neg (by rw [c_4b]; decide)] at hK; exact hK)
def T_X3_readsNumber : List Value → Hp → (Res → Hp → Prop) → Prop := fun av g K => ∃ (A : Nat → Nat) (S : Nat → Int32) (F : Nat → Nat → Int32) (w : Nat → Int32) (g0 : Hp) (t : Tx) (len : Nat) , mok A ∧ g = mdl A (tS S t) (tF F t) w g0 ∧ av = [.ref (A 0)] ∧ S 15 = nI len ∧ len ≤ 60 ∧ t.1 ≤ len ∧ K (.inl (some (.int (bI (tx_nu (F 14) len t).1)))) (mdl A (tS S (tx_nu (F 14) len t).2) (tF F (tx_nu (F 14) len t).2) w g0)
theorem C_X3_readsNumber {l : Launch} {s0 : State} (h0 : St0 l s0) : Ctr l s0 yX3_readsNumber (ws_ yX3_readsNumber cX3_readsNumber 2 (Option.some Jvm.ClassFile.FieldType.boolean)) 4 0 0 T_X3_readsNumber := by
  refine ctr_of h0 (by decide) ?_ ?_
  · rintro av g K ⟨A, S, F, w, g0, t, len, hA, rfl, rfl, hl0, hl1, hl2, hK⟩
    exact Nat.le_of_ble_eq_true rfl
  · rintro Z X av g K G ⟨A, S, F, w, g0, t, len, hA, rfl, rfl, hl0, hl1, hl2, hK⟩
    show Z 0 [some (.ref (A 0)), none] [] _ _ _
    refine z_aload_n G dX3_readsNumber_0 rfl rfl rfl ?_
    refine z_iconst G dX3_readsNumber_1 rfl (v := 0) (by decide) ?_
    refine z_V G dX3_readsNumber_2 rfl m_X3_readsDigit q3085 (C_X3_readsDigit h0) (by decide) (As := [_]) rfl rfl (Nat.le_of_ble_eq_true rfl) (Nat.zero_le _) (Nat.zero_le _) (mhas hA) (⟨_, _, _, _, _, _, _, _, hA, rfl, rfl, hl0, hl1, (by repeat first | assumption | apply txdg_l | refine txis_l (by decide) ?_ | refine txrd_l (by decide) ?_ | apply txnu_l), (by first | assumption | decide | omega), ?_⟩)
    refine z_if_ne G dX3_readsNumber_5 rfl (tgt := 10) (by decide) (fun c_5 => ?_) (fun c_5 => ?_)
    · have c_5b := bI_t c_5
      refine z_aload_n G dX3_readsNumber_10 rfl rfl rfl ?_
      refine mz_get G hA dX3_readsNumber_11 rfl (j := 18) fl_X3_36_2 rfl ?_
      refine z_iconst G dX3_readsNumber_14 rfl (v := 0) (by decide) ?_
      refine mz_ild G hA 18 (by decide) rfl dX3_readsNumber_15 rfl (0) rfl (by decide) (by decide) ?_
      refine z_istore_n G dX3_readsNumber_16 rfl (i := 1) rfl (by decide) (zcat_s rfl) (show Z 17 [_, _] _ _ _ _ from ?_)
      refine z_aload_n G dX3_readsNumber_17 rfl rfl rfl ?_
      refine z_iconst G dX3_readsNumber_18 rfl (v := 0) (by decide) ?_
      refine z_V G dX3_readsNumber_19 rfl m_X3_readsDigit q3085 (C_X3_readsDigit h0) (by decide) (As := [_]) rfl rfl (Nat.le_of_ble_eq_true rfl) (Nat.zero_le _) (Nat.zero_le _) (mhas hA) (⟨_, _, _, _, _, _, _, _, hA, rfl, rfl, hl0, hl1, (by repeat first | assumption | apply txdg_l | refine txis_l (by decide) ?_ | refine txrd_l (by decide) ?_ | apply txnu_l), (by first | assumption | decide | omega), ?_⟩)
      refine z_if_eq G dX3_readsNumber_22 rfl (tgt := 38) (by decide) (fun c_22 => ?_) (fun c_22 => ?_)
      · have c_22b := bI_f c_22
        have hf := txdg_f c_22b
        rw [hf]
        refine z_iconst G dX3_readsNumber_38 rfl (v := 1) (by decide) ?_
        exact z_iret G dX3_readsNumber_39 rfl (by first | rfl | exact bI_nar _) (by first | (rw [tx_nu, if_pos c_5b, if_pos c_22b] at hK; rw [tF_nu (a := (tx_dg (F 14) len 0 (tx_dg (F 14) len 0 t).2).2.1) (v := (tx_dg (F 14) len 0 (tx_dg (F 14) len 0 t).2).2.2.1)]; exact hK) | (rw [tx_nu, if_pos c_5b, if_neg (by rw [c_22b]; decide)] at hK; exact hK))
      · have c_22b := bI_t c_22
        refine z_aload_n G dX3_readsNumber_25 rfl rfl rfl ?_
        refine mz_get G hA dX3_readsNumber_26 rfl (j := 18) fl_X3_36_2 rfl ?_
        refine z_iconst G dX3_readsNumber_29 rfl (v := 0) (by decide) ?_
        refine z_dup2_11 G dX3_readsNumber_30 rfl rfl rfl ?_
        refine mz_ild G hA 18 (by decide) rfl dX3_readsNumber_31 rfl (0) rfl (by decide) (by decide) ?_
        refine z_bipush G dX3_readsNumber_32 rfl (v := 10) (by decide) ?_
        refine z_iload_n G dX3_readsNumber_34 rfl rfl rfl ?_
        refine z_imul G dX3_readsNumber_35 rfl ?_
        refine z_iadd G dX3_readsNumber_36 rfl ?_
        refine mz_ist G hA 18 (by decide) (by decide) (fun _ => rfl) dX3_readsNumber_37 rfl (0) rfl (by decide) (by decide) ?_
        refine z_iconst G dX3_readsNumber_38 rfl (v := 1) (by decide) ?_
        exact z_iret G dX3_readsNumber_39 rfl (by first | rfl | exact bI_nar _) (by first | (rw [tx_nu, if_pos c_5b, if_pos c_22b] at hK; rw [tF_nu (a := (tx_dg (F 14) len 0 (tx_dg (F 14) len 0 t).2).2.1) (v := (tx_dg (F 14) len 0 (tx_dg (F 14) len 0 t).2).2.2.1)]; exact hK) | (rw [tx_nu, if_pos c_5b, if_neg (by rw [c_22b]; decide)] at hK; exact hK))
    · have c_5b := bI_f c_5
      have hf := txdg_f c_5b
      rw [hf]
      refine z_iconst G dX3_readsNumber_8 rfl (v := 0) (by decide) ?_
      exact z_iret G dX3_readsNumber_9 rfl (by first | rfl | exact bI_nar _) (by rw [tx_nu, if_neg (by rw [c_5b]; decide)] at hK; exact hK)
def T_X3_isSort : List Value → Hp → (Res → Hp → Prop) → Prop := fun av g K => ∃ (A : Nat → Nat) (S : Nat → Int32) (F : Nat → Nat → Int32) (w : Nat → Int32) (g0 : Hp) (t : Tx) (len : Nat) (c x : Int32), mok A ∧ g = mdl A (tS S t) (tF F t) w g0 ∧ av = [.ref (A 0), .int c, .int x] ∧ S 15 = nI len ∧ len ≤ 60 ∧ t.1 ≤ len ∧ K (.inl (some (.int (bI (tx_is (F 14) len c x t).1)))) (mdl A (tS S (tx_is (F 14) len c x t).2) (tF F (tx_is (F 14) len c x t).2) w g0)
theorem C_X3_isSort {l : Launch} {s0 : State} (h0 : St0 l s0) : Ctr l s0 yX3_isSort (ws_ yX3_isSort cX3_isSort 3 (Option.some Jvm.ClassFile.FieldType.boolean)) 3 0 0 T_X3_isSort := by
  refine ctr_of h0 (by decide) ?_ ?_
  · rintro av g K ⟨A, S, F, w, g0, t, len, c, x, hA, rfl, rfl, hl0, hl1, hl2, hK⟩
    exact Nat.le_of_ble_eq_true rfl
  · rintro Z X av g K G ⟨A, S, F, w, g0, t, len, c, x, hA, rfl, rfl, hl0, hl1, hl2, hK⟩
    show Z 0 [some (.ref (A 0)), some (.int c), some (.int x)] [] _ _ _
    refine z_aload_n G dX3_isSort_0 rfl rfl rfl ?_
    refine z_iload_n G dX3_isSort_1 rfl rfl rfl ?_
    refine z_V G dX3_isSort_2 rfl m_X3_reads q3077 (C_X3_reads h0) (by decide) (As := [_]) rfl rfl (Nat.le_of_ble_eq_true rfl) (Nat.zero_le _) (Nat.zero_le _) (mhas hA) (⟨_, _, _, _, _, _, _, _, hA, rfl, rfl, hl0, hl1, (by repeat first | assumption | apply txdg_l | refine txis_l (by decide) ?_ | refine txrd_l (by decide) ?_ | apply txnu_l), ?_⟩)
    refine z_if_ne G dX3_isSort_5 rfl (tgt := 10) (by decide) (fun c_5 => ?_) (fun c_5 => ?_)
    · have c_5b := bI_t c_5
      refine z_aload_n G dX3_isSort_10 rfl rfl rfl ?_
      refine z_iload_n G dX3_isSort_11 rfl rfl rfl ?_
      refine mz_put G hA dX3_isSort_12 rfl (j := 19) fl_X3_262_2p rfl rfl (by decide) rfl ?_
      refine z_iconst G dX3_isSort_15 rfl (v := 1) (by decide) ?_
      exact z_iret G dX3_isSort_16 rfl (by first | rfl | exact bI_nar _) (by rw [tx_is, if_pos c_5b] at hK; rw [tS_so]; exact hK)
    · have c_5b := bI_f c_5
      have hf := txrd_f c_5b
      rw [hf]
      refine z_iconst G dX3_isSort_8 rfl (v := 0) (by decide) ?_
      exact z_iret G dX3_isSort_9 rfl (by first | rfl | exact bI_nar _) (by rw [tx_is, if_neg (by rw [c_5b]; decide)] at hK; exact hK)
def T_X3_readsHours : List Value → Hp → (Res → Hp → Prop) → Prop := fun av g K => ∃ (A : Nat → Nat) (S : Nat → Int32) (F : Nat → Nat → Int32) (w : Nat → Int32) (g0 : Hp) (t : Tx) (len : Nat) , mok A ∧ g = mdl A (tS S t) (tF F t) w g0 ∧ av = [.ref (A 0)] ∧ S 15 = nI len ∧ len ≤ 60 ∧ t.1 ≤ len ∧ K (.inl (some (.int (bI (tx_hs (F 14) len t).1)))) (mdl A (tS S (tx_hs (F 14) len t).2) (tF F (tx_hs (F 14) len t).2) w g0)
theorem C_X3_readsHours {l : Launch} {s0 : State} (h0 : St0 l s0) : Ctr l s0 yX3_readsHours (ws_ yX3_readsHours cX3_readsHours 1 (Option.some Jvm.ClassFile.FieldType.boolean)) 5 0 0 T_X3_readsHours := by
  refine ctr_of h0 (by decide) ?_ ?_
  · rintro av g K ⟨A, S, F, w, g0, t, len, hA, rfl, rfl, hl0, hl1, hl2, hK⟩
    exact Nat.le_of_ble_eq_true rfl
  · rintro Z X av g K G ⟨A, S, F, w, g0, t, len, hA, rfl, rfl, hl0, hl1, hl2, hK⟩
    show Z 0 [some (.ref (A 0))] [] _ _ _
    refine z_aload_n G dX3_readsHours_0 rfl rfl rfl ?_
    refine mz_get G hA dX3_readsHours_1 rfl (j := 18) fl_X3_36_2 rfl ?_
    refine z_iconst G dX3_readsHours_4 rfl (v := 0) (by decide) ?_
    refine z_iconst G dX3_readsHours_5 rfl (v := 1) (by decide) ?_
    refine mz_ist G hA 18 (by decide) (by decide) (fun _ => rfl) dX3_readsHours_6 rfl (0) rfl (by decide) (by decide) ?_
    rw [tF_nu (a := t.1) (v := t.2.1)]
    show Z 7 _ _ (mdl A (tS S (tx_h1 t)) (tF F (tx_h1 t)) w g0) _ _
    refine z_aload_n G dX3_readsHours_7 rfl rfl rfl ?_
    refine z_V G dX3_readsHours_8 rfl m_X3_isDigit q3089 (C_X3_isDigit h0) (by decide) (As := []) rfl rfl (Nat.le_of_ble_eq_true rfl) (Nat.zero_le _) (Nat.zero_le _) (mhas hA) (⟨_, _, _, _, _, _, _, hA, rfl, rfl, hl0, hl1, (by repeat first | assumption | apply txdg_l | refine txis_l (by decide) ?_ | refine txrd_l (by decide) ?_ | apply txnu_l), ?_⟩)
    refine z_if_eq G dX3_readsHours_11 rfl (tgt := 21) (by decide) (fun c_11 => ?_) (fun c_11 => ?_)
    · have c_11b := bI_f c_11
      have hd : ¬ btw (tx_sg (F 14) len t) 48 57 = true := by rw [show btw (tx_sg (F 14) len t) 48 57 = false from c_11b]; decide
      refine z_iconst G dX3_readsHours_21 rfl (v := 1) (by decide) ?_
      refine z_goto G dX3_readsHours_22 (tgt := 26) (by decide) ?_
      exact z_iret G dX3_readsHours_26 rfl (by first | rfl | exact bI_nar _) (by first | (rw [tx_hs, if_pos hd, c_18b] at hK; first | exact hK | (rw [hf] at hK; exact hK)) | (rw [tx_hs, if_neg hd] at hK; exact hK))
    · have c_11b := bI_t c_11
      have hd : btw (tx_sg (F 14) len t) 48 57 = true := c_11b
      refine z_aload_n G dX3_readsHours_14 rfl rfl rfl ?_
      refine z_V G dX3_readsHours_15 rfl m_X3_readsNumber q3093 (C_X3_readsNumber h0) (by decide) (As := []) rfl rfl (Nat.le_of_ble_eq_true rfl) (Nat.zero_le _) (Nat.zero_le _) (mhas hA) (⟨_, _, _, _, _, _, _, hA, rfl, rfl, hl0, hl1, (by repeat first | assumption | apply txdg_l | refine txis_l (by decide) ?_ | refine txrd_l (by decide) ?_ | apply txnu_l), ?_⟩)
      refine z_if_eq G dX3_readsHours_18 rfl (tgt := 25) (by decide) (fun c_18 => ?_) (fun c_18 => ?_)
      · have c_18b := bI_f c_18
        have hf := txnu_f c_18b
        rw [hf]
        refine z_iconst G dX3_readsHours_25 rfl (v := 0) (by decide) ?_
        exact z_iret G dX3_readsHours_26 rfl (by first | rfl | exact bI_nar _) (by first | (rw [tx_hs, if_pos hd, c_18b] at hK; first | exact hK | (rw [hf] at hK; exact hK)) | (rw [tx_hs, if_neg hd] at hK; exact hK))
      · have c_18b := bI_t c_18
        refine z_iconst G dX3_readsHours_21 rfl (v := 1) (by decide) ?_
        refine z_goto G dX3_readsHours_22 (tgt := 26) (by decide) ?_
        exact z_iret G dX3_readsHours_26 rfl (by first | rfl | exact bI_nar _) (by first | (rw [tx_hs, if_pos hd, c_18b] at hK; first | exact hK | (rw [hf] at hK; exact hK)) | (rw [tx_hs, if_neg hd] at hK; exact hK))
def T_X3_readsOrder : List Value → Hp → (Res → Hp → Prop) → Prop := fun av g K => ∃ (A : Nat → Nat) (S : Nat → Int32) (F : Nat → Nat → Int32) (w : Nat → Int32) (g0 : Hp) (t : Tx) (len : Nat) , mok A ∧ g = mdl A (tS S t) (tF F t) w g0 ∧ av = [.ref (A 0)] ∧ S 15 = nI len ∧ len ≤ 60 ∧ t.1 ≤ len ∧ K (.inl (some (.int (bI (tx_or (F 14) len t).1)))) (mdl A (tS S (tx_or (F 14) len t).2) (tF F (tx_or (F 14) len t).2) w g0)
theorem C_X3_readsOrder {l : Launch} {s0 : State} (h0 : St0 l s0) : Ctr l s0 yX3_readsOrder (ws_ yX3_readsOrder cX3_readsOrder 1 (Option.some Jvm.ClassFile.FieldType.boolean)) 6 0 0 T_X3_readsOrder := by
  refine ctr_of h0 (by decide) ?_ ?_
  · rintro av g K ⟨A, S, F, w, g0, t, len, hA, rfl, rfl, hl0, hl1, hl2, hK⟩
    exact Nat.le_of_ble_eq_true rfl
  · rintro Z X av g K G ⟨A, S, F, w, g0, t, len, hA, rfl, rfl, hl0, hl1, hl2, hK⟩
    show Z 0 [some (.ref (A 0))] [] _ _ _
    refine z_aload_n G dX3_readsOrder_0 rfl rfl rfl ?_
    refine z_bipush G dX3_readsOrder_1 rfl (v := 109) (by decide) ?_
    refine z_iconst G dX3_readsOrder_3 rfl (v := 1) (by decide) ?_
    refine z_V G dX3_readsOrder_4 rfl m_X3_isSort q3073 (C_X3_isSort h0) (by decide) (As := [_, _]) rfl rfl (Nat.le_of_ble_eq_true rfl) (Nat.zero_le _) (Nat.zero_le _) (mhas hA) (⟨_, _, _, _, _, _, _, _, _, hA, rfl, rfl, hl0, hl1, (by repeat first | assumption | apply txdg_l | refine txis_l (by decide) ?_ | refine txrd_l (by decide) ?_ | apply txnu_l), ?_⟩)
    refine z_if_eq G dX3_readsOrder_7 rfl (tgt := 12) (by decide) (fun c_7 => ?_) (fun c_7 => ?_)
    · have c_7b := bI_f c_7
      have hf := txis_f c_7b
      rw [hf]
      refine z_aload_n G dX3_readsOrder_12 rfl rfl rfl ?_
      refine z_bipush G dX3_readsOrder_13 rfl (v := 98) (by decide) ?_
      refine z_iconst G dX3_readsOrder_15 rfl (v := 0) (by decide) ?_
      refine z_V G dX3_readsOrder_16 rfl m_X3_isSort q3073 (C_X3_isSort h0) (by decide) (As := [_, _]) rfl rfl (Nat.le_of_ble_eq_true rfl) (Nat.zero_le _) (Nat.zero_le _) (mhas hA) (⟨_, _, _, _, _, _, _, _, _, hA, rfl, rfl, hl0, hl1, (by repeat first | assumption | apply txdg_l | refine txis_l (by decide) ?_ | refine txrd_l (by decide) ?_ | apply txnu_l), ?_⟩)
      refine z_if_ne G dX3_readsOrder_19 rfl (tgt := 52) (by decide) (fun c_19 => ?_) (fun c_19 => ?_)
      · have c_19b := bI_t c_19
        refine z_aload_n G dX3_readsOrder_52 rfl rfl rfl ?_
        refine z_iconst G dX3_readsOrder_53 rfl (v := 0) (by decide) ?_
        refine z_V G dX3_readsOrder_54 rfl m_X3_readsDigit q3085 (C_X3_readsDigit h0) (by decide) (As := [_]) rfl rfl (Nat.le_of_ble_eq_true rfl) (Nat.zero_le _) (Nat.zero_le _) (mhas hA) (⟨_, _, _, _, _, _, _, _, hA, rfl, rfl, hl0, hl1, (by repeat first | assumption | apply txdg_l | refine txis_l (by decide) ?_ | refine txrd_l (by decide) ?_ | apply txnu_l), (by first | assumption | decide | omega), ?_⟩)
        exact z_iret G dX3_readsOrder_57 rfl (by first | rfl | exact bI_nar _) (by simp only [tx_or, tx_dr, bI, c_7, c_7b, c_19, c_19b, if_true, if_false, reduceIte, Bool.false_eq_true] at hK ⊢; first | exact hK | (simp only [hg] at hK ⊢; exact hK))
      · have c_19b := bI_f c_19
        have hf := txis_f c_19b
        rw [hf]
        refine z_aload_n G dX3_readsOrder_22 rfl rfl rfl ?_
        refine z_bipush G dX3_readsOrder_23 rfl (v := 115) (by decide) ?_
        refine z_iconst G dX3_readsOrder_25 rfl (v := 2) (by decide) ?_
        refine z_V G dX3_readsOrder_26 rfl m_X3_isSort q3073 (C_X3_isSort h0) (by decide) (As := [_, _]) rfl rfl (Nat.le_of_ble_eq_true rfl) (Nat.zero_le _) (Nat.zero_le _) (mhas hA) (⟨_, _, _, _, _, _, _, _, _, hA, rfl, rfl, hl0, hl1, (by repeat first | assumption | apply txdg_l | refine txis_l (by decide) ?_ | refine txrd_l (by decide) ?_ | apply txnu_l), ?_⟩)
        refine z_if_ne G dX3_readsOrder_29 rfl (tgt := 52) (by decide) (fun c_29 => ?_) (fun c_29 => ?_)
        · have c_29b := bI_t c_29
          refine z_aload_n G dX3_readsOrder_52 rfl rfl rfl ?_
          refine z_iconst G dX3_readsOrder_53 rfl (v := 0) (by decide) ?_
          refine z_V G dX3_readsOrder_54 rfl m_X3_readsDigit q3085 (C_X3_readsDigit h0) (by decide) (As := [_]) rfl rfl (Nat.le_of_ble_eq_true rfl) (Nat.zero_le _) (Nat.zero_le _) (mhas hA) (⟨_, _, _, _, _, _, _, _, hA, rfl, rfl, hl0, hl1, (by repeat first | assumption | apply txdg_l | refine txis_l (by decide) ?_ | refine txrd_l (by decide) ?_ | apply txnu_l), (by first | assumption | decide | omega), ?_⟩)
          exact z_iret G dX3_readsOrder_57 rfl (by first | rfl | exact bI_nar _) (by simp only [tx_or, tx_dr, bI, c_7, c_7b, c_19, c_19b, c_29, c_29b, if_true, if_false, reduceIte, Bool.false_eq_true] at hK ⊢; first | exact hK | (simp only [hg] at hK ⊢; exact hK))
        · have c_29b := bI_f c_29
          have hf := txis_f c_29b
          rw [hf]
          refine z_aload_n G dX3_readsOrder_32 rfl rfl rfl ?_
          refine z_bipush G dX3_readsOrder_33 rfl (v := 112) (by decide) ?_
          refine z_iconst G dX3_readsOrder_35 rfl (v := 4) (by decide) ?_
          refine z_V G dX3_readsOrder_36 rfl m_X3_isSort q3073 (C_X3_isSort h0) (by decide) (As := [_, _]) rfl rfl (Nat.le_of_ble_eq_true rfl) (Nat.zero_le _) (Nat.zero_le _) (mhas hA) (⟨_, _, _, _, _, _, _, _, _, hA, rfl, rfl, hl0, hl1, (by repeat first | assumption | apply txdg_l | refine txis_l (by decide) ?_ | refine txrd_l (by decide) ?_ | apply txnu_l), ?_⟩)
          refine z_if_ne G dX3_readsOrder_39 rfl (tgt := 52) (by decide) (fun c_39 => ?_) (fun c_39 => ?_)
          · have c_39b := bI_t c_39
            refine z_aload_n G dX3_readsOrder_52 rfl rfl rfl ?_
            refine z_iconst G dX3_readsOrder_53 rfl (v := 0) (by decide) ?_
            refine z_V G dX3_readsOrder_54 rfl m_X3_readsDigit q3085 (C_X3_readsDigit h0) (by decide) (As := [_]) rfl rfl (Nat.le_of_ble_eq_true rfl) (Nat.zero_le _) (Nat.zero_le _) (mhas hA) (⟨_, _, _, _, _, _, _, _, hA, rfl, rfl, hl0, hl1, (by repeat first | assumption | apply txdg_l | refine txis_l (by decide) ?_ | refine txrd_l (by decide) ?_ | apply txnu_l), (by first | assumption | decide | omega), ?_⟩)
            exact z_iret G dX3_readsOrder_57 rfl (by first | rfl | exact bI_nar _) (by simp only [tx_or, tx_dr, bI, c_7, c_7b, c_19, c_19b, c_29, c_29b, c_39, c_39b, if_true, if_false, reduceIte, Bool.false_eq_true] at hK ⊢; first | exact hK | (simp only [hg] at hK ⊢; exact hK))
          · have c_39b := bI_f c_39
            have hf := txis_f c_39b
            rw [hf]
            refine z_aload_n G dX3_readsOrder_42 rfl rfl rfl ?_
            refine z_bipush G dX3_readsOrder_43 rfl (v := 120) (by decide) ?_
            refine z_iconst G dX3_readsOrder_45 rfl (v := 5) (by decide) ?_
            refine z_V G dX3_readsOrder_46 rfl m_X3_isSort q3073 (C_X3_isSort h0) (by decide) (As := [_, _]) rfl rfl (Nat.le_of_ble_eq_true rfl) (Nat.zero_le _) (Nat.zero_le _) (mhas hA) (⟨_, _, _, _, _, _, _, _, _, hA, rfl, rfl, hl0, hl1, (by repeat first | assumption | apply txdg_l | refine txis_l (by decide) ?_ | refine txrd_l (by decide) ?_ | apply txnu_l), ?_⟩)
            refine z_if_eq G dX3_readsOrder_49 rfl (tgt := 58) (by decide) (fun c_49 => ?_) (fun c_49 => ?_)
            · have c_49b := bI_f c_49
              have hf := txis_f c_49b
              rw [hf]
              refine z_aload_n G dX3_readsOrder_58 rfl rfl rfl ?_
              refine z_bipush G dX3_readsOrder_59 rfl (v := 99) (by decide) ?_
              refine z_iconst G dX3_readsOrder_61 rfl (v := 3) (by decide) ?_
              refine z_V G dX3_readsOrder_62 rfl m_X3_isSort q3073 (C_X3_isSort h0) (by decide) (As := [_, _]) rfl rfl (Nat.le_of_ble_eq_true rfl) (Nat.zero_le _) (Nat.zero_le _) (mhas hA) (⟨_, _, _, _, _, _, _, _, _, hA, rfl, rfl, hl0, hl1, (by repeat first | assumption | apply txdg_l | refine txis_l (by decide) ?_ | refine txrd_l (by decide) ?_ | apply txnu_l), ?_⟩)
              refine z_if_eq G dX3_readsOrder_65 rfl (tgt := 73) (by decide) (fun c_65 => ?_) (fun c_65 => ?_)
              · have c_65b := bI_f c_65
                have hf := txis_f c_65b
                rw [hf]
                refine z_aload_n G dX3_readsOrder_73 rfl rfl rfl ?_
                refine z_bipush G dX3_readsOrder_74 rfl (v := 100) (by decide) ?_
                refine z_bipush G dX3_readsOrder_76 rfl (v := 6) (by decide) ?_
                refine z_V G dX3_readsOrder_78 rfl m_X3_isSort q3073 (C_X3_isSort h0) (by decide) (As := [_, _]) rfl rfl (Nat.le_of_ble_eq_true rfl) (Nat.zero_le _) (Nat.zero_le _) (mhas hA) (⟨_, _, _, _, _, _, _, _, _, hA, rfl, rfl, hl0, hl1, (by repeat first | assumption | apply txdg_l | refine txis_l (by decide) ?_ | refine txrd_l (by decide) ?_ | apply txnu_l), ?_⟩)
                refine z_if_eq G dX3_readsOrder_81 rfl (tgt := 115) (by decide) (fun c_81 => ?_) (fun c_81 => ?_)
                · have c_81b := bI_f c_81
                  have hf := txis_f c_81b
                  rw [hf]
                  refine z_aload_n G dX3_readsOrder_115 rfl rfl rfl ?_
                  refine z_bipush G dX3_readsOrder_116 rfl (v := 104) (by decide) ?_
                  refine z_bipush G dX3_readsOrder_118 rfl (v := 7) (by decide) ?_
                  refine z_V G dX3_readsOrder_120 rfl m_X3_isSort q3073 (C_X3_isSort h0) (by decide) (As := [_, _]) rfl rfl (Nat.le_of_ble_eq_true rfl) (Nat.zero_le _) (Nat.zero_le _) (mhas hA) (⟨_, _, _, _, _, _, _, _, _, hA, rfl, rfl, hl0, hl1, (by repeat first | assumption | apply txdg_l | refine txis_l (by decide) ?_ | refine txrd_l (by decide) ?_ | apply txnu_l), ?_⟩)
                  refine z_if_eq G dX3_readsOrder_123 rfl (tgt := 137) (by decide) (fun c_123 => ?_) (fun c_123 => ?_)
                  · have c_123b := bI_f c_123
                    have hf := txis_f c_123b
                    rw [hf]
                    refine z_iconst G dX3_readsOrder_137 rfl (v := 0) (by decide) ?_
                    exact z_iret G dX3_readsOrder_138 rfl (by first | rfl | exact bI_nar _) (by simp only [tx_or, tx_dr, bI, c_7, c_7b, c_19, c_19b, c_29, c_29b, c_39, c_39b, c_49, c_49b, c_65, c_65b, c_81, c_81b, c_123, c_123b, if_true, if_false, reduceIte, Bool.false_eq_true] at hK ⊢; first | exact hK | (simp only [hg] at hK ⊢; exact hK))
                  · have c_123b := bI_t c_123
                    refine z_aload_n G dX3_readsOrder_126 rfl rfl rfl ?_
                    refine z_V G dX3_readsOrder_127 rfl m_X3_readsHours q3097 (C_X3_readsHours h0) (by decide) (As := []) rfl rfl (Nat.le_of_ble_eq_true rfl) (Nat.zero_le _) (Nat.zero_le _) (mhas hA) (⟨_, _, _, _, _, _, _, hA, rfl, rfl, hl0, hl1, (by repeat first | assumption | apply txdg_l | refine txis_l (by decide) ?_ | refine txrd_l (by decide) ?_ | apply txnu_l), ?_⟩)
                    refine z_if_eq G dX3_readsOrder_130 rfl (tgt := 137) (by decide) (fun c_130 => ?_) (fun c_130 => ?_)
                    · have c_130b := bI_f c_130
                      refine z_iconst G dX3_readsOrder_137 rfl (v := 0) (by decide) ?_
                      exact z_iret G dX3_readsOrder_138 rfl (by first | rfl | exact bI_nar _) (by simp only [tx_or, tx_dr, bI, c_7, c_7b, c_19, c_19b, c_29, c_29b, c_39, c_39b, c_49, c_49b, c_65, c_65b, c_81, c_81b, c_123, c_123b, c_130, c_130b, if_true, if_false, reduceIte, Bool.false_eq_true] at hK ⊢; first | exact hK | (simp only [hg] at hK ⊢; exact hK))
                    · have c_130b := bI_t c_130
                      refine z_iconst G dX3_readsOrder_133 rfl (v := 1) (by decide) ?_
                      refine z_goto G dX3_readsOrder_134 (tgt := 138) (by decide) ?_
                      exact z_iret G dX3_readsOrder_138 rfl (by first | rfl | exact bI_nar _) (by simp only [tx_or, tx_dr, bI, c_7, c_7b, c_19, c_19b, c_29, c_29b, c_39, c_39b, c_49, c_49b, c_65, c_65b, c_81, c_81b, c_123, c_123b, c_130, c_130b, if_true, if_false, reduceIte, Bool.false_eq_true] at hK ⊢; first | exact hK | (simp only [hg] at hK ⊢; exact hK))
                · have c_81b := bI_t c_81
                  refine z_aload_n G dX3_readsOrder_84 rfl rfl rfl ?_
                  refine z_iconst G dX3_readsOrder_85 rfl (v := 0) (by decide) ?_
                  refine z_V G dX3_readsOrder_86 rfl m_X3_readsDigit q3085 (C_X3_readsDigit h0) (by decide) (As := [_]) rfl rfl (Nat.le_of_ble_eq_true rfl) (Nat.zero_le _) (Nat.zero_le _) (mhas hA) (⟨_, _, _, _, _, _, _, _, hA, rfl, rfl, hl0, hl1, (by repeat first | assumption | apply txdg_l | refine txis_l (by decide) ?_ | refine txrd_l (by decide) ?_ | apply txnu_l), (by first | assumption | decide | omega), ?_⟩)
                  refine z_if_eq G dX3_readsOrder_89 rfl (tgt := 113) (by decide) (fun c_89 => ?_) (fun c_89 => ?_)
                  · have c_89b := bI_f c_89
                    have hg := txdg_f c_89b
                    have hz := hK
                    refine z_iconst G dX3_readsOrder_113 rfl (v := 0) (by decide) ?_
                    exact z_iret G dX3_readsOrder_114 rfl (by first | rfl | exact bI_nar _) (by simp only [tx_or, tx_dr, bI, c_7, c_7b, c_19, c_19b, c_29, c_29b, c_39, c_39b, c_49, c_49b, c_65, c_65b, c_81, c_81b, c_89, c_89b, if_true, if_false, reduceIte, Bool.false_eq_true] at hK ⊢; first | exact hK | (simp only [hg] at hK ⊢; exact hK))
                  · have c_89b := bI_t c_89
                    refine z_aload_n G dX3_readsOrder_92 rfl rfl rfl ?_
                    refine z_bipush G dX3_readsOrder_93 rfl (v := 42) (by decide) ?_
                    refine z_V G dX3_readsOrder_95 rfl m_X3_reads q3077 (C_X3_reads h0) (by decide) (As := [_]) rfl rfl (Nat.le_of_ble_eq_true rfl) (Nat.zero_le _) (Nat.zero_le _) (mhas hA) (⟨_, _, _, _, _, _, _, _, hA, rfl, rfl, hl0, hl1, (by repeat first | assumption | apply txdg_l | refine txis_l (by decide) ?_ | refine txrd_l (by decide) ?_ | apply txnu_l), ?_⟩)
                    refine z_if_eq G dX3_readsOrder_98 rfl (tgt := 113) (by decide) (fun c_98 => ?_) (fun c_98 => ?_)
                    · have c_98b := bI_f c_98
                      have hg := txrd_f c_98b
                      have hz := hK
                      refine z_iconst G dX3_readsOrder_113 rfl (v := 0) (by decide) ?_
                      exact z_iret G dX3_readsOrder_114 rfl (by first | rfl | exact bI_nar _) (by simp only [tx_or, tx_dr, bI, c_7, c_7b, c_19, c_19b, c_29, c_29b, c_39, c_39b, c_49, c_49b, c_65, c_65b, c_81, c_81b, c_89, c_89b, c_98, c_98b, if_true, if_false, reduceIte, Bool.false_eq_true] at hK ⊢; first | exact hK | (simp only [hg] at hK ⊢; exact hK))
                    · have c_98b := bI_t c_98
                      refine z_aload_n G dX3_readsOrder_101 rfl rfl rfl ?_
                      refine z_iconst G dX3_readsOrder_102 rfl (v := 1) (by decide) ?_
                      refine z_V G dX3_readsOrder_103 rfl m_X3_readsDigit q3085 (C_X3_readsDigit h0) (by decide) (As := [_]) rfl rfl (Nat.le_of_ble_eq_true rfl) (Nat.zero_le _) (Nat.zero_le _) (mhas hA) (⟨_, _, _, _, _, _, _, _, hA, rfl, rfl, hl0, hl1, (by repeat first | assumption | apply txdg_l | refine txis_l (by decide) ?_ | refine txrd_l (by decide) ?_ | apply txnu_l), (by first | assumption | decide | omega), ?_⟩)
                      refine z_if_eq G dX3_readsOrder_106 rfl (tgt := 113) (by decide) (fun c_106 => ?_) (fun c_106 => ?_)
                      · have c_106b := bI_f c_106
                        have hz := hK
                        refine z_iconst G dX3_readsOrder_113 rfl (v := 0) (by decide) ?_
                        exact z_iret G dX3_readsOrder_114 rfl (by first | rfl | exact bI_nar _) (by simp only [tx_or, tx_dr, bI, c_7, c_7b, c_19, c_19b, c_29, c_29b, c_39, c_39b, c_49, c_49b, c_65, c_65b, c_81, c_81b, c_89, c_89b, c_98, c_98b, c_106, c_106b, if_true, if_false, reduceIte, Bool.false_eq_true] at hK ⊢; first | exact hK | (simp only [hg] at hK ⊢; exact hK))
                      · have c_106b := bI_t c_106
                        refine z_iconst G dX3_readsOrder_109 rfl (v := 1) (by decide) ?_
                        refine z_goto G dX3_readsOrder_110 (tgt := 114) (by decide) ?_
                        exact z_iret G dX3_readsOrder_114 rfl (by first | rfl | exact bI_nar _) (by simp only [tx_or, tx_dr, bI, c_7, c_7b, c_19, c_19b, c_29, c_29b, c_39, c_39b, c_49, c_49b, c_65, c_65b, c_81, c_81b, c_89, c_89b, c_98, c_98b, c_106, c_106b, if_true, if_false, reduceIte, Bool.false_eq_true] at hK ⊢; first | exact hK | (simp only [hg] at hK ⊢; exact hK))
              · have c_65b := bI_t c_65
                refine z_aload_n G dX3_readsOrder_68 rfl rfl rfl ?_
                refine z_V G dX3_readsOrder_69 rfl m_X3_readsNumber q3093 (C_X3_readsNumber h0) (by decide) (As := []) rfl rfl (Nat.le_of_ble_eq_true rfl) (Nat.zero_le _) (Nat.zero_le _) (mhas hA) (⟨_, _, _, _, _, _, _, hA, rfl, rfl, hl0, hl1, (by repeat first | assumption | apply txdg_l | refine txis_l (by decide) ?_ | refine txrd_l (by decide) ?_ | apply txnu_l), ?_⟩)
                exact z_iret G dX3_readsOrder_72 rfl (by first | rfl | exact bI_nar _) (by simp only [tx_or, tx_dr, bI, c_7, c_7b, c_19, c_19b, c_29, c_29b, c_39, c_39b, c_49, c_49b, c_65, c_65b, if_true, if_false, reduceIte, Bool.false_eq_true] at hK ⊢; first | exact hK | (simp only [hg] at hK ⊢; exact hK))
            · have c_49b := bI_t c_49
              refine z_aload_n G dX3_readsOrder_52 rfl rfl rfl ?_
              refine z_iconst G dX3_readsOrder_53 rfl (v := 0) (by decide) ?_
              refine z_V G dX3_readsOrder_54 rfl m_X3_readsDigit q3085 (C_X3_readsDigit h0) (by decide) (As := [_]) rfl rfl (Nat.le_of_ble_eq_true rfl) (Nat.zero_le _) (Nat.zero_le _) (mhas hA) (⟨_, _, _, _, _, _, _, _, hA, rfl, rfl, hl0, hl1, (by repeat first | assumption | apply txdg_l | refine txis_l (by decide) ?_ | refine txrd_l (by decide) ?_ | apply txnu_l), (by first | assumption | decide | omega), ?_⟩)
              exact z_iret G dX3_readsOrder_57 rfl (by first | rfl | exact bI_nar _) (by simp only [tx_or, tx_dr, bI, c_7, c_7b, c_19, c_19b, c_29, c_29b, c_39, c_39b, c_49, c_49b, if_true, if_false, reduceIte, Bool.false_eq_true] at hK ⊢; first | exact hK | (simp only [hg] at hK ⊢; exact hK))
    · have c_7b := bI_t c_7
      refine z_iconst G dX3_readsOrder_10 rfl (v := 1) (by decide) ?_
      exact z_iret G dX3_readsOrder_11 rfl (by first | rfl | exact bI_nar _) (by simp only [tx_or, tx_dr, bI, c_7, c_7b, if_true, if_false, reduceIte, Bool.false_eq_true] at hK ⊢; first | exact hK | (simp only [hg] at hK ⊢; exact hK))
def T_X3_readsAll : List Value → Hp → (Res → Hp → Prop) → Prop := fun av g K => ∃ (A : Nat → Nat) (S : Nat → Int32) (F : Nat → Nat → Int32) (w : Nat → Int32) (g0 : Hp) (t : Tx) (len : Nat) , mok A ∧ g = mdl A (tS S t) (tF F t) w g0 ∧ av = [.ref (A 0)] ∧ S 15 = nI len ∧ len ≤ 60 ∧ K (.inl (some (.int (bI (tx_al (F 14) len 61 (0, t.2)).1)))) (mdl A (tS S (tx_al (F 14) len 61 (0, t.2)).2) (tF F (tx_al (F 14) len 61 (0, t.2)).2) w g0)
theorem C_X3_readsAll {l : Launch} {s0 : State} (h0 : St0 l s0) : Ctr l s0 yX3_readsAll (ws_ yX3_readsAll cX3_readsAll 2 (Option.some Jvm.ClassFile.FieldType.boolean)) 7 0 0 T_X3_readsAll := by
  refine ctr_of h0 (by decide) ?_ ?_
  · rintro av g K ⟨A, S, F, w, g0, t, len, hA, rfl, rfl, hl0, hl1, hK⟩
    exact Nat.le_of_ble_eq_true rfl
  · rintro Z X av g K G ⟨A, S, F, w, g0, t, len, hA, rfl, rfl, hl0, hl1, hK⟩
    show Z 0 [some (.ref (A 0)), none] [] _ _ _
    refine z_aload_n G dX3_readsAll_0 rfl rfl rfl ?_
    refine z_iconst G dX3_readsAll_1 rfl (v := 0) (by decide) ?_
    refine mz_put G hA dX3_readsAll_2 rfl (j := 16) fl_X3_246_2p rfl rfl (by decide) rfl ?_
    rw [tS_at (x := 0) (a := 0) rfl]
    show Z 5 _ _ (mdl A (tS S (0, t.2)) (tF F (0, t.2)) w g0) _ _
    have L30 : ∀ (t : Tx), t.1 ≤ len → K (.inl (some (.int (bI (decide (t.1 = len)))))) (mdl A (tS S t) (tF F t) w g0) → Z 7 [some (.ref (A 0)), some (.int 0)] [] (mdl A (tS S t) (tF F t) w g0) 0 0 := by
      intro t ht hK
      refine z_iload_n G dX3_readsAll_7 rfl rfl rfl ?_
      refine z_if_eq G dX3_readsAll_8 rfl (tgt := 30) (by decide) (fun c_8 => ?_) (fun c_8 => ?_)
      · refine z_aload_n G dX3_readsAll_30 rfl rfl rfl ?_
        refine mz_getN G hA dX3_readsAll_31 rfl (j := 16) fl_X3_246_2 rfl (t.1) rfl ?_
        refine z_aload_n G dX3_readsAll_34 rfl rfl rfl ?_
        refine mz_getN G hA dX3_readsAll_35 rfl (j := 15) fl_X3_243_2 rfl (len) hl0 ?_
        refine z_icmp_ne G dX3_readsAll_38 rfl (tgt := 45) (by decide) (fun c_38 => ?_) (fun c_38 => ?_)
        · have c_38N := (not_congr <| nI_eq (a := t.1) (b := len) (by omega) (by omega)).mp c_38
          refine z_iconst G dX3_readsAll_45 rfl (v := 0) (by decide) ?_
          exact z_iret G dX3_readsAll_46 rfl (by first | rfl | exact bI_nar _) (by first | (rw [decide_eq_true c_38N] at hK; exact hK) | (rw [decide_eq_false c_38N] at hK; exact hK))
        · have c_38N := (nI_eq (a := t.1) (b := len) (by omega) (by omega)).mp c_38
          refine z_iconst G dX3_readsAll_41 rfl (v := 1) (by decide) ?_
          refine z_goto G dX3_readsAll_42 (tgt := 46) (by decide) ?_
          exact z_iret G dX3_readsAll_46 rfl (by first | rfl | exact bI_nar _) (by first | (rw [decide_eq_true c_38N] at hK; exact hK) | (rw [decide_eq_false c_38N] at hK; exact hK))
      · exact absurd rfl c_8
    refine z_iconst G dX3_readsAll_5 rfl (v := 1) (by decide) ?_
    refine z_istore_n G dX3_readsAll_6 rfl (i := 1) rfl (by decide) (zcat_s rfl) (show Z 7 [_, _] _ _ _ _ from ?_)
    have L7 : ∀ (n : Nat) (t1 : Tx), t1.1 ≤ len → len < n + t1.1 → K (.inl (some (.int (bI (tx_al (F 14) len n t1).1)))) (mdl A (tS S (tx_al (F 14) len n t1).2) (tF F (tx_al (F 14) len n t1).2) w g0) → Z 7 [some (.ref (A 0)), some (.int 1)] [] (mdl A (tS S t1) (tF F t1) w g0) 0 0 := by
      intro n
      induction n with
      | zero =>
        intro t1 h1 h2 hK
        exact absurd h2 (by omega)
      | succ n ih =>
        intro t1 h1 h2 hK
        refine z_iload_n G dX3_readsAll_7 rfl rfl rfl ?_
        refine z_if_eq G dX3_readsAll_8 rfl (tgt := 30) (by decide) (fun c_8 => ?_) (fun c_8 => ?_)
        · exact absurd c_8 (by decide)
        · refine z_aload_n G dX3_readsAll_11 rfl rfl rfl ?_
          refine z_V G dX3_readsAll_12 rfl m_X3_readsOrder q3069 (C_X3_readsOrder h0) (by decide) (As := []) rfl rfl (Nat.le_of_ble_eq_true rfl) (Nat.zero_le _) (Nat.zero_le _) (mhas hA) (⟨_, _, _, _, _, _, _, hA, rfl, rfl, hl0, hl1, h1, ?_⟩)
          refine z_if_ne G dX3_readsAll_15 rfl (tgt := 20) (by decide) (fun c_15 => ?_) (fun c_15 => ?_)
          · have c_15b := bI_t c_15
            have ho := c_15b
            obtain ⟨ho1, ho2⟩ := txor_t c_15b
            refine z_aload_n G dX3_readsAll_20 rfl rfl rfl ?_
            refine z_bipush G dX3_readsAll_21 rfl (v := 59) (by decide) ?_
            refine z_V G dX3_readsAll_23 rfl m_X3_reads q3077 (C_X3_reads h0) (by decide) (As := [_]) rfl rfl (Nat.le_of_ble_eq_true rfl) (Nat.zero_le _) (Nat.zero_le _) (mhas hA) (⟨_, _, _, _, _, _, _, _, hA, rfl, rfl, hl0, hl1, ho2, ?_⟩)
            cases hr : (tx_rd (F 14) len 59 (tx_or (F 14) len t1).2).1 with
            | true =>
              obtain ⟨hr1, hr2⟩ := txrd_t hr (by decide)
              refine z_istore_n G dX3_readsAll_26 rfl (i := 1) rfl (by decide) (zcat_s rfl) (show Z 27 [_, _] _ _ _ _ from ?_)
              refine z_goto G dX3_readsAll_27 (tgt := 7) (by decide) ?_
              exact ih _ (by omega) (by omega) (by rw [tx_al, if_pos ho, if_pos hr] at hK; exact hK)
            | false =>
              rw [tx_al, if_pos ho, if_neg (by rw [hr]; decide)] at hK
              rw [txrd_f hr]
              refine z_istore_n G dX3_readsAll_26 rfl (i := 1) rfl (by decide) (zcat_s rfl) (show Z 27 [_, _] _ _ _ _ from ?_)
              refine z_goto G dX3_readsAll_27 (tgt := 7) (by decide) ?_
              exact L30 _ ho2 hK
          · have c_15b := bI_f c_15
            refine z_iconst G dX3_readsAll_18 rfl (v := 0) (by decide) ?_
            exact z_iret G dX3_readsAll_19 rfl (by first | rfl | exact bI_nar _) (by rw [tx_al, if_neg (by rw [c_15b]; decide)] at hK; exact hK)
    exact L7 61 (0, t.2) (Nat.zero_le _) (by show len < 61 + 0; omega) hK
