/-! THE REFERENCE: leaf methods -/
def T_X3_isBetween : List Value → Hp → (Res → Hp → Prop) → Prop := fun av g K => ∃ (v lo hi : Int32), av = [.int v, .int lo, .int hi] ∧ K (.inl (some (.int (bI (btw v lo hi))))) g
theorem C_X3_isBetween {l : Launch} {s0 : State} (h0 : St0 l s0) : Ctr l s0 yX3_isBetween (ws_ yX3_isBetween cX3_isBetween 3 (Option.some Jvm.ClassFile.FieldType.boolean)) 1 0 0 T_X3_isBetween := by
  refine ctr_of h0 (by decide) ?_ ?_
  · rintro av g K ⟨v, lo, hi, rfl, hK⟩
    exact Nat.le_of_ble_eq_true rfl
  · rintro Z X av g K G ⟨v, lo, hi, rfl, hK⟩
    show Z 0 [some (.int v), some (.int lo), some (.int hi)] [] _ _ _
    refine z_iload_n G dX3_isBetween_0 rfl rfl rfl ?_
    refine z_iload_n G dX3_isBetween_1 rfl rfl rfl ?_
    refine z_icmp_gt G dX3_isBetween_2 rfl (tgt := 14) (by decide) (fun c_2 => ?_) (fun c_2 => ?_)
    · have c_2n := Int32.not_le.mpr c_2
      refine z_iconst G dX3_isBetween_14 rfl (v := 0) (by decide) ?_
      exact z_iret G dX3_isBetween_15 rfl rfl (by simpa [bI, btw, c_2, c_2n] using hK)
    · have c_2n := Int32.not_lt.mp c_2
      refine z_iload_n G dX3_isBetween_5 rfl rfl rfl ?_
      refine z_iload_n G dX3_isBetween_6 rfl rfl rfl ?_
      refine z_icmp_gt G dX3_isBetween_7 rfl (tgt := 14) (by decide) (fun c_7 => ?_) (fun c_7 => ?_)
      · have c_7n := Int32.not_le.mpr c_7
        refine z_iconst G dX3_isBetween_14 rfl (v := 0) (by decide) ?_
        exact z_iret G dX3_isBetween_15 rfl rfl (by simpa [bI, btw, c_2, c_2n, c_7, c_7n] using hK)
      · have c_7n := Int32.not_lt.mp c_7
        refine z_iconst G dX3_isBetween_10 rfl (v := 1) (by decide) ?_
        refine z_goto G dX3_isBetween_11 (tgt := 15) (by decide) ?_
        exact z_iret G dX3_isBetween_15 rfl rfl (by simpa [bI, btw, c_2, c_2n, c_7, c_7n] using hK)
def T_X3_held : List Value → Hp → (Res → Hp → Prop) → Prop := fun av g K => ∃ (v : Int32), av = [.int v] ∧ K (.inl (some (.int (if 9 < v then 9 else v)))) g
theorem C_X3_held {l : Launch} {s0 : State} (h0 : St0 l s0) : Ctr l s0 yX3_held (ws_ yX3_held cX3_held 1 (Option.some Jvm.ClassFile.FieldType.int)) 1 0 0 T_X3_held := by
  refine ctr_of h0 (by decide) ?_ ?_
  · rintro av g K ⟨v, rfl, hK⟩
    exact Nat.le_of_ble_eq_true rfl
  · rintro Z X av g K G ⟨v, rfl, hK⟩
    show Z 0 [some (.int v)] [] _ _ _
    refine z_iload_n G dX3_held_0 rfl rfl rfl ?_
    refine z_bipush G dX3_held_1 rfl (v := 9) (by decide) ?_
    refine z_icmp_le G dX3_held_3 rfl (tgt := 11) (by decide) (fun c_3 => ?_) (fun c_3 => ?_)
    · have c_3n := Int32.not_lt.mpr c_3
      refine z_iload_n G dX3_held_11 rfl rfl rfl ?_
      exact z_iret G dX3_held_12 rfl rfl (by simpa [c_3, c_3n] using hK)
    · have c_3n := Int32.not_le.mp c_3
      refine z_bipush G dX3_held_6 rfl (v := 9) (by decide) ?_
      refine z_goto G dX3_held_8 (tgt := 12) (by decide) ?_
      exact z_iret G dX3_held_12 rfl rfl (by simpa [c_3, c_3n] using hK)
def T_X3_fails : List Value → Hp → (Res → Hp → Prop) → Prop := fun av g K => ∃ (A : Nat → Nat) (S : Nat → Int32) (F : Nat → Nat → Int32) (w : Nat → Int32) (g0 : Hp) (v : Int32), mok A ∧ g = mdl A S F w g0 ∧ av = [.ref (A 0), .int v] ∧ K (.inl (some (.int 0))) (mdl A (upd S 0 v) F w g0)
theorem C_X3_fails {l : Launch} {s0 : State} (h0 : St0 l s0) : Ctr l s0 yX3_fails (ws_ yX3_fails cX3_fails 2 (Option.some Jvm.ClassFile.FieldType.int)) 1 0 0 T_X3_fails := by
  refine ctr_of h0 (by decide) ?_ ?_
  · rintro av g K ⟨A, S, F, w, g0, v, hA, rfl, rfl, hK⟩
    exact Nat.le_of_ble_eq_true rfl
  · rintro Z X av g K G ⟨A, S, F, w, g0, v, hA, rfl, rfl, hK⟩
    show Z 0 [some (.ref (A 0)), some (.int v)] [] _ _ _
    refine z_aload_n G dX3_fails_0 rfl rfl rfl ?_
    refine z_iload_n G dX3_fails_1 rfl rfl rfl ?_
    refine mz_put G hA dX3_fails_2 rfl (j := 0) fl_X3_42_2p rfl rfl (by decide) rfl ?_
    refine z_iconst G dX3_fails_5 rfl (v := 0) (by decide) ?_
    exact z_iret G dX3_fails_6 rfl rfl (hK)
def T_X3_thrown : List Value → Hp → (Res → Hp → Prop) → Prop := fun av g K => ∃ (A : Nat → Nat) (S : Nat → Int32) (F : Nat → Nat → Int32) (w : Nat → Int32) (g0 : Hp) , mok A ∧ g = mdl A S F w g0 ∧ av = [.ref (A 0)] ∧ K (.inl (some (.int (S 0)))) g
theorem C_X3_thrown {l : Launch} {s0 : State} (h0 : St0 l s0) : Ctr l s0 yX3_thrown (ws_ yX3_thrown cX3_thrown 1 (Option.some Jvm.ClassFile.FieldType.int)) 1 0 0 T_X3_thrown := by
  refine ctr_of h0 (by decide) ?_ ?_
  · rintro av g K ⟨A, S, F, w, g0, hA, rfl, rfl, hK⟩
    exact Nat.le_of_ble_eq_true rfl
  · rintro Z X av g K G ⟨A, S, F, w, g0, hA, rfl, rfl, hK⟩
    show Z 0 [some (.ref (A 0))] [] _ _ _
    refine z_aload_n G dX3_thrown_0 rfl rfl rfl ?_
    refine mz_get G hA dX3_thrown_1 rfl (j := 0) fl_X3_42_2 rfl ?_
    exact z_iret G dX3_thrown_4 rfl rfl (hK)
def T_X3_isNot : List Value → Hp → (Res → Hp → Prop) → Prop := fun av g K => ∃ (A : Nat → Nat) (S : Nat → Int32) (F : Nat → Nat → Int32) (w : Nat → Int32) (g0 : Hp) (a b : Int32), mok A ∧ g = mdl A S F w g0 ∧ av = [.ref (A 0), .int a, .int b] ∧ K (.inl (some (.int 9))) (mdl A (upd (upd (upd (upd S 3 a) 4 b) 5 0) 6 0) F w g0)
theorem C_X3_isNot {l : Launch} {s0 : State} (h0 : St0 l s0) : Ctr l s0 yX3_isNot (ws_ yX3_isNot cX3_isNot 3 (Option.some Jvm.ClassFile.FieldType.int)) 1 0 0 T_X3_isNot := by
  refine ctr_of h0 (by decide) ?_ ?_
  · rintro av g K ⟨A, S, F, w, g0, a, b, hA, rfl, rfl, hK⟩
    exact Nat.le_of_ble_eq_true rfl
  · rintro Z X av g K G ⟨A, S, F, w, g0, a, b, hA, rfl, rfl, hK⟩
    show Z 0 [some (.ref (A 0)), some (.int a), some (.int b)] [] _ _ _
    refine z_aload_n G dX3_isNot_0 rfl rfl rfl ?_
    refine z_iload_n G dX3_isNot_1 rfl rfl rfl ?_
    refine mz_put G hA dX3_isNot_2 rfl (j := 3) fl_X3_45_2p rfl rfl (by decide) rfl ?_
    refine z_aload_n G dX3_isNot_5 rfl rfl rfl ?_
    refine z_iload_n G dX3_isNot_6 rfl rfl rfl ?_
    refine mz_put G hA dX3_isNot_7 rfl (j := 4) fl_X3_48_2p rfl rfl (by decide) rfl ?_
    refine z_aload_n G dX3_isNot_10 rfl rfl rfl ?_
    refine z_iconst G dX3_isNot_11 rfl (v := 0) (by decide) ?_
    refine mz_put G hA dX3_isNot_12 rfl (j := 5) fl_X3_51_2p rfl rfl (by decide) rfl ?_
    refine z_aload_n G dX3_isNot_15 rfl rfl rfl ?_
    refine z_iconst G dX3_isNot_16 rfl (v := 0) (by decide) ?_
    refine mz_put G hA dX3_isNot_17 rfl (j := 6) fl_X3_54_2p rfl rfl (by decide) rfl ?_
    refine z_bipush G dX3_isNot_20 rfl (v := 9) (by decide) ?_
    exact z_iret G dX3_isNot_22 rfl rfl (hK)
def T_X3_of : List Value → Hp → (Res → Hp → Prop) → Prop := fun av g K => ∃ (A : Nat → Nat) (S : Nat → Int32) (F : Nat → Nat → Int32) (w : Nat → Int32) (g0 : Hp) (p j : Nat), mok A ∧ g = mdl A S F w g0 ∧ av = [.ref (A 0), .int (nI p), .int (nI j)] ∧ p < 10 ∧ j < 5 ∧ K (.inl (some (.int (pw w p j)))) g
theorem C_X3_of {l : Launch} {s0 : State} (h0 : St0 l s0) : Ctr l s0 yX3_of (ws_ yX3_of cX3_of 3 (Option.some Jvm.ClassFile.FieldType.int)) 1 0 0 T_X3_of := by
  refine ctr_of h0 (by decide) ?_ ?_
  · rintro av g K ⟨A, S, F, w, g0, p, j, hA, rfl, rfl, hp0, hp1, hK⟩
    exact Nat.le_of_ble_eq_true rfl
  · rintro Z X av g K G ⟨A, S, F, w, g0, p, j, hA, rfl, rfl, hp0, hp1, hK⟩
    show Z 0 [some (.ref (A 0)), some (.int (nI p)), some (.int (nI j))] [] _ _ _
    refine z_aload_n G dX3_of_0 rfl rfl rfl ?_
    refine mz_get G hA dX3_of_1 rfl (j := 7) fl_X3_16_2 rfl ?_
    refine z_bipush G dX3_of_4 rfl (v := 49) (by decide) ?_
    refine z_iconst G dX3_of_6 rfl (v := 5) (by decide) ?_
    refine z_iload_n G dX3_of_7 rfl rfl rfl ?_
    refine z_imulN G (5) (p) rfl rfl dX3_of_8 rfl ?_
    refine z_iaddN G (49) (5 * p) rfl rfl dX3_of_9 rfl ?_
    refine z_iload_n G dX3_of_10 rfl rfl rfl ?_
    refine z_iaddN G (49 + 5 * p) (j) rfl rfl dX3_of_11 rfl ?_
    refine mz_wld G hA dX3_of_12 rfl (49 + 5 * p + j) rfl (by omega) ?_
    exact z_iret G dX3_of_13 rfl rfl (hK)
def T_X3_sets : List Value → Hp → (Res → Hp → Prop) → Prop := fun av g K => ∃ (A : Nat → Nat) (S : Nat → Int32) (F : Nat → Nat → Int32) (w : Nat → Int32) (g0 : Hp) (p j : Nat) (x : Int32), mok A ∧ g = mdl A S F w g0 ∧ av = [.ref (A 0), .int (nI p), .int (nI j), .int x] ∧ p < 10 ∧ j < 5 ∧ K (.inl none) (mdl A S F (upd w (49 + 5 * p + j) x) g0)
theorem C_X3_sets {l : Launch} {s0 : State} (h0 : St0 l s0) : Ctr l s0 yX3_sets (ws_ yX3_sets cX3_sets 4 (Option.none : Option Jvm.ClassFile.FieldType)) 1 0 0 T_X3_sets := by
  refine ctr_of h0 (by decide) ?_ ?_
  · rintro av g K ⟨A, S, F, w, g0, p, j, x, hA, rfl, rfl, hp0, hp1, hK⟩
    exact Nat.le_of_ble_eq_true rfl
  · rintro Z X av g K G ⟨A, S, F, w, g0, p, j, x, hA, rfl, rfl, hp0, hp1, hK⟩
    show Z 0 [some (.ref (A 0)), some (.int (nI p)), some (.int (nI j)), some (.int x)] [] _ _ _
    refine z_aload_n G dX3_sets_0 rfl rfl rfl ?_
    refine mz_get G hA dX3_sets_1 rfl (j := 7) fl_X3_16_2 rfl ?_
    refine z_bipush G dX3_sets_4 rfl (v := 49) (by decide) ?_
    refine z_iconst G dX3_sets_6 rfl (v := 5) (by decide) ?_
    refine z_iload_n G dX3_sets_7 rfl rfl rfl ?_
    refine z_imulN G (5) (p) rfl rfl dX3_sets_8 rfl ?_
    refine z_iaddN G (49) (5 * p) rfl rfl dX3_sets_9 rfl ?_
    refine z_iload_n G dX3_sets_10 rfl rfl rfl ?_
    refine z_iaddN G (49 + 5 * p) (j) rfl rfl dX3_sets_11 rfl ?_
    refine z_iload_n G dX3_sets_12 rfl rfl rfl ?_
    refine mz_wst G hA dX3_sets_13 rfl (49 + 5 * p + j) rfl (by omega) ?_
    exact z_vret G dX3_sets_14 rfl (hK)
def T_X3_keepsAt : List Value → Hp → (Res → Hp → Prop) → Prop := fun av g K => ∃ (A : Nat → Nat) (S : Nat → Int32) (F : Nat → Nat → Int32) (w : Nat → Int32) (g0 : Hp) (d : Nat) (a b : Int32), mok A ∧ g = mdl A S F w g0 ∧ av = [.ref (A 0), .int (nI d), .int a, .int b] ∧ d < 3 ∧ K (.inl none) (mdl A S (m_keep F d a b) w g0)
theorem C_X3_keepsAt {l : Launch} {s0 : State} (h0 : St0 l s0) : Ctr l s0 yX3_keepsAt (ws_ yX3_keepsAt cX3_keepsAt 4 (Option.none : Option Jvm.ClassFile.FieldType)) 1 0 0 T_X3_keepsAt := by
  refine ctr_of h0 (by decide) ?_ ?_
  · rintro av g K ⟨A, S, F, w, g0, d, a, b, hA, rfl, rfl, hp0, hK⟩
    exact Nat.le_of_ble_eq_true rfl
  · rintro Z X av g K G ⟨A, S, F, w, g0, d, a, b, hA, rfl, rfl, hp0, hK⟩
    show Z 0 [some (.ref (A 0)), some (.int (nI d)), some (.int a), some (.int b)] [] _ _ _
    refine z_aload_n G dX3_keepsAt_0 rfl rfl rfl ?_
    refine mz_get G hA dX3_keepsAt_1 rfl (j := 1) fl_X3_7_2 rfl ?_
    refine z_iload_n G dX3_keepsAt_4 rfl rfl rfl ?_
    refine z_iload_n G dX3_keepsAt_5 rfl rfl rfl ?_
    refine mz_ist G hA 1 (by decide) (by decide) (fun _ => rfl) dX3_keepsAt_6 rfl (d) rfl (by omega) (by decide) ?_
    refine z_aload_n G dX3_keepsAt_7 rfl rfl rfl ?_
    refine mz_get G hA dX3_keepsAt_8 rfl (j := 2) fl_X3_13_2 rfl ?_
    refine z_iload_n G dX3_keepsAt_11 rfl rfl rfl ?_
    refine z_iload_n G dX3_keepsAt_12 rfl rfl rfl ?_
    refine mz_ist G hA 2 (by decide) (by decide) (fun _ => rfl) dX3_keepsAt_13 rfl (d) rfl (by omega) (by decide) ?_
    exact z_vret G dX3_keepsAt_14 rfl (hK)
def T_X3_refuses : List Value → Hp → (Res → Hp → Prop) → Prop := fun av g K => ∃ (A : Nat → Nat) (S : Nat → Int32) (F : Nat → Nat → Int32) (w : Nat → Int32) (g0 : Hp) , mok A ∧ g = mdl A S F w g0 ∧ av = [.ref (A 0)] ∧ K (.inl (some (.int 0))) (mdl A (upd S 0 1) (m_ref S F) w g0)
theorem C_X3_refuses {l : Launch} {s0 : State} (h0 : St0 l s0) : Ctr l s0 yX3_refuses (ws_ yX3_refuses cX3_refuses 1 (Option.some Jvm.ClassFile.FieldType.int)) 2 0 0 T_X3_refuses := by
  refine ctr_of h0 (by decide) ?_ ?_
  · rintro av g K ⟨A, S, F, w, g0, hA, rfl, rfl, hK⟩
    exact Nat.le_of_ble_eq_true rfl
  · rintro Z X av g K G ⟨A, S, F, w, g0, hA, rfl, rfl, hK⟩
    show Z 0 [some (.ref (A 0))] [] _ _ _
    refine z_aload_n G dX3_refuses_0 rfl rfl rfl ?_
    refine z_iconst G dX3_refuses_1 rfl (v := 0) (by decide) ?_
    refine z_aload_n G dX3_refuses_2 rfl rfl rfl ?_
    refine mz_get G hA dX3_refuses_3 rfl (j := 3) fl_X3_45_2 rfl ?_
    refine z_aload_n G dX3_refuses_6 rfl rfl rfl ?_
    refine mz_get G hA dX3_refuses_7 rfl (j := 4) fl_X3_48_2 rfl ?_
    refine z_V G dX3_refuses_10 rfl m_X3_keepsAt q2679 (C_X3_keepsAt h0) (by decide) (As := [_, _, _]) rfl rfl (Nat.le_of_ble_eq_true rfl) (Nat.zero_le _) (Nat.zero_le _) (mhas hA) (⟨_, _, _, _, _, _, _, _, hA, rfl, rfl, (by first | assumption | decide | omega), ?_⟩)
    refine z_aload_n G dX3_refuses_13 rfl rfl rfl ?_
    refine z_iconst G dX3_refuses_14 rfl (v := 1) (by decide) ?_
    refine z_aload_n G dX3_refuses_15 rfl rfl rfl ?_
    refine mz_get G hA dX3_refuses_16 rfl (j := 5) fl_X3_51_2 rfl ?_
    refine z_aload_n G dX3_refuses_19 rfl rfl rfl ?_
    refine mz_get G hA dX3_refuses_20 rfl (j := 6) fl_X3_54_2 rfl ?_
    refine z_V G dX3_refuses_23 rfl m_X3_keepsAt q2679 (C_X3_keepsAt h0) (by decide) (As := [_, _, _]) rfl rfl (Nat.le_of_ble_eq_true rfl) (Nat.zero_le _) (Nat.zero_le _) (mhas hA) (⟨_, _, _, _, _, _, _, _, hA, rfl, rfl, (by first | assumption | decide | omega), ?_⟩)
    refine z_aload_n G dX3_refuses_26 rfl rfl rfl ?_
    refine z_iconst G dX3_refuses_27 rfl (v := 2) (by decide) ?_
    refine z_iconst G dX3_refuses_28 rfl (v := 0) (by decide) ?_
    refine z_iconst G dX3_refuses_29 rfl (v := 0) (by decide) ?_
    refine z_V G dX3_refuses_30 rfl m_X3_keepsAt q2679 (C_X3_keepsAt h0) (by decide) (As := [_, _, _]) rfl rfl (Nat.le_of_ble_eq_true rfl) (Nat.zero_le _) (Nat.zero_le _) (mhas hA) (⟨_, _, _, _, _, _, _, _, hA, rfl, rfl, (by first | assumption | decide | omega), ?_⟩)
    refine z_aload_n G dX3_refuses_33 rfl rfl rfl ?_
    refine z_iconst G dX3_refuses_34 rfl (v := 1) (by decide) ?_
    refine z_V G dX3_refuses_35 rfl m_X3_fails q2683 (C_X3_fails h0) (by decide) (As := [_]) rfl rfl (Nat.le_of_ble_eq_true rfl) (Nat.zero_le _) (Nat.zero_le _) (mhas hA) (⟨_, _, _, _, _, _, hA, rfl, rfl, ?_⟩)
    exact z_iret G dX3_refuses_38 rfl rfl (hK)
def T_X3_isPipe : List Value → Hp → (Res → Hp → Prop) → Prop := fun av g K => ∃ (A : Nat → Nat) (S : Nat → Int32) (F : Nat → Nat → Int32) (w : Nat → Int32) (g0 : Hp) (p : Int32), mok A ∧ g = mdl A S F w g0 ∧ av = [.ref (A 0), .int p] ∧ K (.inl (some (.int (bI (btw p 0 (w 2 - 1)))))) g
theorem C_X3_isPipe {l : Launch} {s0 : State} (h0 : St0 l s0) : Ctr l s0 yX3_isPipe (ws_ yX3_isPipe cX3_isPipe 2 (Option.some Jvm.ClassFile.FieldType.boolean)) 2 0 0 T_X3_isPipe := by
  refine ctr_of h0 (by decide) ?_ ?_
  · rintro av g K ⟨A, S, F, w, g0, p, hA, rfl, rfl, hK⟩
    exact Nat.le_of_ble_eq_true rfl
  · rintro Z X av g K G ⟨A, S, F, w, g0, p, hA, rfl, rfl, hK⟩
    show Z 0 [some (.ref (A 0)), some (.int p)] [] _ _ _
    refine z_iload_n G dX3_isPipe_0 rfl rfl rfl ?_
    refine z_iconst G dX3_isPipe_1 rfl (v := 0) (by decide) ?_
    refine z_aload_n G dX3_isPipe_2 rfl rfl rfl ?_
    refine mz_get G hA dX3_isPipe_3 rfl (j := 7) fl_X3_16_2 rfl ?_
    refine z_iconst G dX3_isPipe_6 rfl (v := 2) (by decide) ?_
    refine mz_wld G hA dX3_isPipe_7 rfl (2) rfl (by decide) ?_
    refine z_iconst G dX3_isPipe_8 rfl (v := 1) (by decide) ?_
    refine z_isub G dX3_isPipe_9 rfl ?_
    refine z_S G dX3_isPipe_10 rfl m_X3_isBetween q2668 (C_X3_isBetween h0) (by decide) (As := [_, _, _]) rfl rfl (Nat.le_of_ble_eq_true rfl) (Nat.zero_le _) (Nat.zero_le _) (⟨_, _, _, rfl, ?_⟩)
    exact z_iret G dX3_isPipe_13 rfl (bI_nar _) (hK)
def T_X3_isPerch : List Value → Hp → (Res → Hp → Prop) → Prop := fun av g K => ∃ (p : Int32), av = [.int p] ∧ K (.inl (some (.int (bI (btw p 0 7))))) g
theorem C_X3_isPerch {l : Launch} {s0 : State} (h0 : St0 l s0) : Ctr l s0 yX3_isPerch (ws_ yX3_isPerch cX3_isPerch 1 (Option.some Jvm.ClassFile.FieldType.boolean)) 2 0 0 T_X3_isPerch := by
  refine ctr_of h0 (by decide) ?_ ?_
  · rintro av g K ⟨p, rfl, hK⟩
    exact Nat.le_of_ble_eq_true rfl
  · rintro Z X av g K G ⟨p, rfl, hK⟩
    show Z 0 [some (.int p)] [] _ _ _
    refine z_iload_n G dX3_isPerch_0 rfl rfl rfl ?_
    refine z_iconst G dX3_isPerch_1 rfl (v := 0) (by decide) ?_
    refine z_bipush G dX3_isPerch_2 rfl (v := 7) (by decide) ?_
    refine z_S G dX3_isPerch_4 rfl m_X3_isBetween q2668 (C_X3_isBetween h0) (by decide) (As := [_, _, _]) rfl rfl (Nat.le_of_ble_eq_true rfl) (Nat.zero_le _) (Nat.zero_le _) (⟨_, _, _, rfl, ?_⟩)
    exact z_iret G dX3_isPerch_7 rfl (bI_nar _) (hK)
def T_X3_isTaken : List Value → Hp → (Res → Hp → Prop) → Prop := fun av g K => ∃ (A : Nat → Nat) (S : Nat → Int32) (F : Nat → Nat → Int32) (w : Nat → Int32) (g0 : Hp) (p : Int32), mok A ∧ g = mdl A S F w g0 ∧ av = [.ref (A 0), .int p] ∧ K (.inl (some (.int (bI (r_tk w p))))) g
theorem C_X3_isTaken {l : Launch} {s0 : State} (h0 : St0 l s0) : Ctr l s0 yX3_isTaken (ws_ yX3_isTaken cX3_isTaken 2 (Option.some Jvm.ClassFile.FieldType.boolean)) 1 0 0 T_X3_isTaken := by
  refine ctr_of h0 (by decide) ?_ ?_
  · rintro av g K ⟨A, S, F, w, g0, p, hA, rfl, rfl, hK⟩
    exact Nat.le_of_ble_eq_true rfl
  · rintro Z X av g K G ⟨A, S, F, w, g0, p, hA, rfl, rfl, hK⟩
    show Z 0 [some (.ref (A 0)), some (.int p)] [] _ _ _
    refine z_aload_n G dX3_isTaken_0 rfl rfl rfl ?_
    refine mz_get G hA dX3_isTaken_1 rfl (j := 7) fl_X3_16_2 rfl ?_
    refine z_bipush G dX3_isTaken_4 rfl (v := 11) (by decide) ?_
    refine mz_wld G hA dX3_isTaken_6 rfl (11) rfl (by decide) ?_
    refine z_iload_n G dX3_isTaken_7 rfl rfl rfl ?_
    refine z_ishr G dX3_isTaken_8 rfl ?_
    refine z_iconst G dX3_isTaken_9 rfl (v := 1) (by decide) ?_
    refine z_iand G dX3_isTaken_10 rfl ?_
    refine z_iconst G dX3_isTaken_11 rfl (v := 1) (by decide) ?_
    refine z_icmp_ne G dX3_isTaken_12 rfl (tgt := 19) (by decide) (fun c_12 => ?_) (fun c_12 => ?_)
    · refine z_iconst G dX3_isTaken_19 rfl (v := 0) (by decide) ?_
      exact z_iret G dX3_isTaken_20 rfl rfl (by simpa [bI, r_tk, c_12] using hK)
    · refine z_iconst G dX3_isTaken_15 rfl (v := 1) (by decide) ?_
      refine z_goto G dX3_isTaken_16 (tgt := 20) (by decide) ?_
      exact z_iret G dX3_isTaken_20 rfl rfl (by simpa [bI, r_tk, c_12] using hK)
def T_X3_placeOf : List Value → Hp → (Res → Hp → Prop) → Prop := fun av g K => ∃ (A : Nat → Nat) (S : Nat → Int32) (F : Nat → Nat → Int32) (w : Nat → Int32) (g0 : Hp) (p : Int32) (nb : Nat), mok A ∧ g = mdl A S F w g0 ∧ av = [.ref (A 0), .int p] ∧ w 3 = nI nb ∧ nb ≤ 10 ∧ K (.inl (some (.int (r_find w p nb 0)))) g
theorem C_X3_placeOf {l : Launch} {s0 : State} (h0 : St0 l s0) : Ctr l s0 yX3_placeOf (ws_ yX3_placeOf cX3_placeOf 3 (Option.some Jvm.ClassFile.FieldType.int)) 1 0 0 T_X3_placeOf := by
  refine ctr_of h0 (by decide) ?_ ?_
  · rintro av g K ⟨A, S, F, w, g0, p, nb, hA, rfl, rfl, hp0, hp1, hK⟩
    exact Nat.le_of_ble_eq_true rfl
  · rintro Z X av g K G ⟨A, S, F, w, g0, p, nb, hA, rfl, rfl, hp0, hp1, hK⟩
    show Z 0 [some (.ref (A 0)), some (.int p), none] [] _ _ _
    refine z_iconst G dX3_placeOf_0 rfl (v := 0) (by decide) ?_
    refine z_istore_n G dX3_placeOf_1 rfl (i := 2) rfl (by decide) (zcat_s rfl) (show Z 2 [_, _, _] _ _ _ _ from ?_)
    have L2 : ∀ n k, k + n = nb → K (.inl (some (.int (r_find w p n k)))) (mdl A S F w g0) → Z 2 [some (.ref (A 0)), some (.int p), some (.int (nI k))] [] (mdl A S F w g0) 0 0 := by
      intro n
      induction n with
      | zero =>
        intro k hk hK
        refine z_iload_n G dX3_placeOf_2 rfl rfl rfl ?_
        refine z_aload_n G dX3_placeOf_3 rfl rfl rfl ?_
        refine mz_get G hA dX3_placeOf_4 rfl (j := 7) fl_X3_16_2 rfl ?_
        refine z_iconst G dX3_placeOf_7 rfl (v := 3) (by decide) ?_
        refine mz_wldN G hA dX3_placeOf_8 rfl (3) rfl (by decide) (nb) hp0 ?_
        refine z_icmp_ge G dX3_placeOf_9 rfl (tgt := 33) (by decide) (fun c_9 => ?_) (fun c_9 => ?_)
        · have c_9n := Int32.not_lt.mpr c_9
          have c_9N := (nI_leI (a := nb) (b := k) (by omega) (by omega)).mp c_9
          refine z_iconst G dX3_placeOf_33 rfl (v := (-1)) (by decide) ?_
          exact z_iret G dX3_placeOf_34 rfl rfl (hK)
        · exact absurd ((not_congr <| nI_leI (a := nb) (b := k) (by omega) (by omega)).mp c_9) (by omega)
      | succ n ih =>
        intro k hk hK
        refine z_iload_n G dX3_placeOf_2 rfl rfl rfl ?_
        refine z_aload_n G dX3_placeOf_3 rfl rfl rfl ?_
        refine mz_get G hA dX3_placeOf_4 rfl (j := 7) fl_X3_16_2 rfl ?_
        refine z_iconst G dX3_placeOf_7 rfl (v := 3) (by decide) ?_
        refine mz_wldN G hA dX3_placeOf_8 rfl (3) rfl (by decide) (nb) hp0 ?_
        refine z_icmp_ge G dX3_placeOf_9 rfl (tgt := 33) (by decide) (fun c_9 => ?_) (fun c_9 => ?_)
        · exact absurd ((nI_leI (a := nb) (b := k) (by omega) (by omega)).mp c_9) (by omega)
        · have c_9n := Int32.not_le.mp c_9
          have c_9N := (not_congr <| nI_leI (a := nb) (b := k) (by omega) (by omega)).mp c_9
          refine z_aload_n G dX3_placeOf_12 rfl rfl rfl ?_
          refine mz_get G hA dX3_placeOf_13 rfl (j := 7) fl_X3_16_2 rfl ?_
          refine z_bipush G dX3_placeOf_16 rfl (v := 12) (by decide) ?_
          refine z_iload_n G dX3_placeOf_18 rfl rfl rfl ?_
          refine z_iaddN G (12) (k) rfl rfl dX3_placeOf_19 rfl ?_
          refine mz_wld G hA dX3_placeOf_20 rfl (12 + k) rfl (by omega) ?_
          refine z_iload_n G dX3_placeOf_21 rfl rfl rfl ?_
          refine z_icmp_ne G dX3_placeOf_22 rfl (tgt := 27) (by decide) (fun c_22 => ?_) (fun c_22 => ?_)
          · refine z_iinc G dX3_placeOf_27 rfl rfl (nI_1 _) (by decide) (zcat_s rfl) (show Z 30 [_, _, _] _ _ _ _ from ?_)
            refine z_goto G dX3_placeOf_30 (tgt := 2) (by decide) ?_
            exact ih (k + 1) (by omega) (by simpa [r_find, c_9, c_9n, c_9N, c_22] using hK)
          · refine z_iload_n G dX3_placeOf_25 rfl rfl rfl ?_
            exact z_iret G dX3_placeOf_26 rfl rfl (by simpa [r_find, c_9, c_9n, c_9N, c_22] using hK)
    exact L2 nb 0 (by omega) hK
