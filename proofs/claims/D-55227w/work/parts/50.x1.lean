/-! THE COMPONENT: what is checked -/
def T_X1_isBetween : List Value → Hp → (Res → Hp → Prop) → Prop := fun av g K => ∃ (v lo hi : Int32), av = [.int v, .int lo, .int hi] ∧ (K (.inl (some (.int (bI (btw v lo hi))))) g)
theorem C_X1_isBetween {l : Launch} {s0 : State} (h0 : St0 l s0) : Ctr l s0 yX1_isBetween (ws_ yX1_isBetween cX1_isBetween 3 (Option.some Jvm.ClassFile.FieldType.boolean)) 1 0 0 T_X1_isBetween := by
  refine ctr_of h0 (by decide) ?_ ?_
  · rintro av g K ⟨v, lo, hi, rfl, hK0⟩
    exact Nat.le_of_ble_eq_true rfl
  · rintro Z X av g K G ⟨v, lo, hi, rfl, hK0⟩
    show Z 0 [some (.int v), some (.int lo), some (.int hi)] [] _ _ _
    refine z_iload_n G dX1_isBetween_0 rfl rfl rfl ?_
    refine z_iload_n G dX1_isBetween_1 rfl rfl rfl ?_
    refine z_icmp_lt G dX1_isBetween_2 rfl (tgt := 14) (by decide) (fun c_2 => ?_) (fun c_2 => ?_)
    · have c_2n := Int32.not_le.mpr c_2
      refine z_iconst G dX1_isBetween_14 rfl (v := 0) (by decide) ?_
      exact z_iret G dX1_isBetween_15 rfl rfl (by simpa [bI, btw, c_2, c_2n] using hK0)
    · have c_2n := Int32.not_lt.mp c_2
      refine z_iload_n G dX1_isBetween_5 rfl rfl rfl ?_
      refine z_iload_n G dX1_isBetween_6 rfl rfl rfl ?_
      refine z_icmp_gt G dX1_isBetween_7 rfl (tgt := 14) (by decide) (fun c_7 => ?_) (fun c_7 => ?_)
      · have c_7n := Int32.not_le.mpr c_7
        refine z_iconst G dX1_isBetween_14 rfl (v := 0) (by decide) ?_
        exact z_iret G dX1_isBetween_15 rfl rfl (by simpa [bI, btw, c_2, c_2n, c_7, c_7n] using hK0)
      · have c_7n := Int32.not_lt.mp c_7
        refine z_iconst G dX1_isBetween_10 rfl (v := 1) (by decide) ?_
        refine z_goto G dX1_isBetween_11 (tgt := 15) (by decide) ?_
        exact z_iret G dX1_isBetween_15 rfl rfl (by simpa [bI, btw, c_2, c_2n, c_7, c_7n] using hK0)
def T_X1_check : List Value → Hp → (Res → Hp → Prop) → Prop := fun av g K => ∃ (b : Bool), av = [.int (bI b)] ∧ (b = true → K (.inl none) g) ∧ (b = false → K (.inr "java/lang/IllegalArgumentException") g)
theorem C_X1_check {l : Launch} {s0 : State} (h0 : St0 l s0) : Ctr l s0 yX1_check (ws_ yX1_check cX1_check 1 (Option.none : Option Jvm.ClassFile.FieldType)) 8 1 6 T_X1_check := by
  refine ctr_of h0 (by decide) ?_ ?_
  · rintro av g K ⟨b, rfl, hK0, hK1⟩
    exact Nat.le_of_ble_eq_true rfl
  · rintro Z X av g K G ⟨b, rfl, hK0, hK1⟩
    show Z 0 [some (.int (bI b))] [] _ _ _
    refine z_iload_n G dX1_check_0 rfl rfl rfl ?_
    refine z_if_ne G dX1_check_1 rfl (tgt := 12) (by decide) (fun c_1 => ?_) (fun c_1 => ?_)
    · exact z_vret G dX1_check_12 rfl (hK0 (bI_t c_1))
    · exact z_throw0 G (cls := "java/lang/IllegalArgumentException") (names := ["java/lang/RuntimeException", "java/lang/Exception"]) (by decide +kernel) (by decide +kernel) q2008 q146 at_check go_check dX1_check_4 dX1_check_7 dX1_check_8 dX1_check_11 (by intro x hx; cases hx) (by decide) (Nat.le_of_ble_eq_true rfl) (by decide) (by decide) (hK1 (bI_f c_1))
def T_X1_checkIndex : List Value → Hp → (Res → Hp → Prop) → Prop := fun av g K => ∃ (b : Bool), av = [.int (bI b)] ∧ (b = true → K (.inl none) g) ∧ (b = false → K (.inr "java/lang/IndexOutOfBoundsException") g)
theorem C_X1_checkIndex {l : Launch} {s0 : State} (h0 : St0 l s0) : Ctr l s0 yX1_checkIndex (ws_ yX1_checkIndex cX1_checkIndex 1 (Option.none : Option Jvm.ClassFile.FieldType)) 8 1 6 T_X1_checkIndex := by
  refine ctr_of h0 (by decide) ?_ ?_
  · rintro av g K ⟨b, rfl, hK0, hK1⟩
    exact Nat.le_of_ble_eq_true rfl
  · rintro Z X av g K G ⟨b, rfl, hK0, hK1⟩
    show Z 0 [some (.int (bI b))] [] _ _ _
    refine z_iload_n G dX1_checkIndex_0 rfl rfl rfl ?_
    refine z_if_ne G dX1_checkIndex_1 rfl (tgt := 12) (by decide) (fun c_1 => ?_) (fun c_1 => ?_)
    · exact z_vret G dX1_checkIndex_12 rfl (hK0 (bI_t c_1))
    · exact z_throw0 G (cls := "java/lang/IndexOutOfBoundsException") (names := ["java/lang/RuntimeException", "java/lang/Exception"]) (by decide +kernel) (by decide +kernel) q2000 q138 at_checkIndex go_checkIndex dX1_checkIndex_4 dX1_checkIndex_7 dX1_checkIndex_8 dX1_checkIndex_11 (by intro x hx; cases hx) (by decide) (Nat.le_of_ble_eq_true rfl) (by decide) (by decide) (hK1 (bI_f c_1))
def T_X1_checkElement : List Value → Hp → (Res → Hp → Prop) → Prop := fun av g K => ∃ (b : Bool), av = [.int (bI b)] ∧ (b = true → K (.inl none) g) ∧ (b = false → K (.inr "java/util/NoSuchElementException") g)
theorem C_X1_checkElement {l : Launch} {s0 : State} (h0 : St0 l s0) : Ctr l s0 yX1_checkElement (ws_ yX1_checkElement cX1_checkElement 1 (Option.none : Option Jvm.ClassFile.FieldType)) 8 1 6 T_X1_checkElement := by
  refine ctr_of h0 (by decide) ?_ ?_
  · rintro av g K ⟨b, rfl, hK0, hK1⟩
    exact Nat.le_of_ble_eq_true rfl
  · rintro Z X av g K G ⟨b, rfl, hK0, hK1⟩
    show Z 0 [some (.int (bI b))] [] _ _ _
    refine z_iload_n G dX1_checkElement_0 rfl rfl rfl ?_
    refine z_if_ne G dX1_checkElement_1 rfl (tgt := 12) (by decide) (fun c_1 => ?_) (fun c_1 => ?_)
    · exact z_vret G dX1_checkElement_12 rfl (hK0 (bI_t c_1))
    · exact z_throw0 G (cls := "java/util/NoSuchElementException") (names := ["java/lang/RuntimeException", "java/lang/Exception"]) (by decide +kernel) (by decide +kernel) q2031 q147 at_checkElement go_checkElement dX1_checkElement_4 dX1_checkElement_7 dX1_checkElement_8 dX1_checkElement_11 (by intro x hx; cases hx) (by decide) (Nat.le_of_ble_eq_true rfl) (by decide) (by decide) (hK1 (bI_f c_1))
def T_X1_checkState : List Value → Hp → (Res → Hp → Prop) → Prop := fun av g K => ∃ (b : Bool), av = [.int (bI b)] ∧ (b = true → K (.inl none) g) ∧ (b = false → K (.inr "java/lang/IllegalStateException") g)
theorem C_X1_checkState {l : Launch} {s0 : State} (h0 : St0 l s0) : Ctr l s0 yX1_checkState (ws_ yX1_checkState cX1_checkState 1 (Option.none : Option Jvm.ClassFile.FieldType)) 8 1 6 T_X1_checkState := by
  refine ctr_of h0 (by decide) ?_ ?_
  · rintro av g K ⟨b, rfl, hK0, hK1⟩
    exact Nat.le_of_ble_eq_true rfl
  · rintro Z X av g K G ⟨b, rfl, hK0, hK1⟩
    show Z 0 [some (.int (bI b))] [] _ _ _
    refine z_iload_n G dX1_checkState_0 rfl rfl rfl ?_
    refine z_if_ne G dX1_checkState_1 rfl (tgt := 12) (by decide) (fun c_1 => ?_) (fun c_1 => ?_)
    · exact z_vret G dX1_checkState_12 rfl (hK0 (bI_t c_1))
    · exact z_throw0 G (cls := "java/lang/IllegalStateException") (names := ["java/lang/RuntimeException", "java/lang/Exception"]) (by decide +kernel) (by decide +kernel) q2172 q156 at_checkState go_checkState dX1_checkState_4 dX1_checkState_7 dX1_checkState_8 dX1_checkState_11 (by intro x hx; cases hx) (by decide) (Nat.le_of_ble_eq_true rfl) (by decide) (by decide) (hK1 (bI_f c_1))
