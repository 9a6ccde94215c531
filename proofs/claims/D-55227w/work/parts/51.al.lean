/-! JDK, RAW: ArrayList -/
def T_J2_size : List Value → Hp → (Res → Hp → Prop) → Prop := fun av g K => ∃ (a b n : Nat) (md : Int32), av = [.ref a] ∧ g a = some (.inl (.inr (8, [.int md, .ref b, .int (nI n)]))) ∧ K (.inl (some (.int (nI n)))) g
theorem C_J2_size {l : Launch} {s0 : State} (h0 : St0 l s0) : Ctr l s0 yJ2_size (ws_ yJ2_size cJ2_size 1 (Option.some Jvm.ClassFile.FieldType.int)) 1 0 0 T_J2_size := by
  refine ctr_of h0 (by decide) ?_ ?_
  · rintro av g K ⟨a, b, n, md, rfl, hp0, hK0⟩
    exact Nat.le_of_ble_eq_true rfl
  · rintro Z X av g K G ⟨a, b, n, md, rfl, hp0, hK0⟩
    show Z 0 [some (.ref a)] [] _ _ _
    refine z_aload_n G dJ2_size_0 rfl rfl rfl ?_
    refine z_get G dJ2_size_1 rfl (j := 2) fl_J2_48_8 (by assumption) rfl ?_
    exact z_iret G dJ2_size_4 rfl rfl (hK0)
def T_J2_isEmpty : List Value → Hp → (Res → Hp → Prop) → Prop := fun av g K => ∃ (a b n : Nat) (md : Int32), av = [.ref a] ∧ g a = some (.inl (.inr (8, [.int md, .ref b, .int (nI n)]))) ∧ n < 2 ^ 31 ∧ K (.inl (some (.int (bI (decide (n = 0)))))) g
theorem C_J2_isEmpty {l : Launch} {s0 : State} (h0 : St0 l s0) : Ctr l s0 yJ2_isEmpty (ws_ yJ2_isEmpty cJ2_isEmpty 1 (Option.some Jvm.ClassFile.FieldType.boolean)) 1 0 0 T_J2_isEmpty := by
  refine ctr_of h0 (by decide) ?_ ?_
  · rintro av g K ⟨a, b, n, md, rfl, hp0, hp1, hK0⟩
    exact Nat.le_of_ble_eq_true rfl
  · rintro Z X av g K G ⟨a, b, n, md, rfl, hp0, hp1, hK0⟩
    show Z 0 [some (.ref a)] [] _ _ _
    refine z_aload_n G dJ2_isEmpty_0 rfl rfl rfl ?_
    refine z_get G dJ2_isEmpty_1 rfl (j := 2) fl_J2_48_8 (by assumption) rfl ?_
    refine z_if_ne G dJ2_isEmpty_4 rfl (tgt := 11) (by decide) (fun c_4 => ?_) (fun c_4 => ?_)
    · have e := fun h => c_4 ((nI_eq (b := 0) hp1 (by decide)).mpr h)
      refine z_iconst G dJ2_isEmpty_11 rfl (v := 0) (by decide) ?_
      exact z_iret G dJ2_isEmpty_12 rfl rfl (by first | (rw [decide_eq_true e] at hK0; exact hK0) | (rw [decide_eq_false e] at hK0; exact hK0))
    · have e := (nI_eq (b := 0) hp1 (by decide)).mp c_4
      refine z_iconst G dJ2_isEmpty_7 rfl (v := 1) (by decide) ?_
      refine z_goto G dJ2_isEmpty_8 (tgt := 12) (by decide) ?_
      exact z_iret G dJ2_isEmpty_12 rfl rfl (by first | (rw [decide_eq_true e] at hK0; exact hK0) | (rw [decide_eq_false e] at hK0; exact hK0))
def T_J2_elementData : List Value → Hp → (Res → Hp → Prop) → Prop := fun av g K => ∃ (a b n i L : Nat) (md : Int32) (f : Nat → Option Nat), av = [.ref a, .int (nI i)] ∧ g a = some (.inl (.inr (8, [.int md, .ref b, .int (nI n)]))) ∧ g b = some (zoa L f) ∧ i < L ∧ L < 2 ^ 31 ∧ K (.inl (some (va_rf (f i)))) g
theorem C_J2_elementData {l : Launch} {s0 : State} (h0 : St0 l s0) : Ctr l s0 yJ2_elementData (ws_ yJ2_elementData cJ2_elementData 2 (Option.some (Jvm.ClassFile.FieldType.object "java/lang/Object"))) 1 0 0 T_J2_elementData := by
  refine ctr_of h0 (by decide) ?_ ?_
  · rintro av g K ⟨a, b, n, i, L, md, f, rfl, hp0, hp1, hp2, hp3, hK0⟩
    exact Nat.le_of_ble_eq_true rfl
  · rintro Z X av g K G ⟨a, b, n, i, L, md, f, rfl, hp0, hp1, hp2, hp3, hK0⟩
    show Z 0 [some (.ref a), some (.int (nI i))] [] _ _ _
    refine z_aload_n G dJ2_elementData_0 rfl rfl rfl ?_
    refine z_get G dJ2_elementData_1 rfl (j := 1) fl_J2_9_8 (by assumption) rfl ?_
    refine z_iload_n G dJ2_elementData_4 rfl rfl rfl ?_
    refine z_aald G dJ2_elementData_5 rfl (by assumption) (vp_in_nI hp2 hp3)  ?_
    rw [nI_clamp (Nat.lt_trans hp2 hp3)]
    exact z_aret G dJ2_elementData_6 rfl rfl (zref_rf _) (hK0)
def T_J17_checkIndex : List Value → Hp → (Res → Hp → Prop) → Prop := fun av g K => ∃ (i n : Nat), av = [.int (nI i), .int (nI n), .null] ∧ i < n ∧ n < 2 ^ 31 ∧ K (.inl (some (.int (nI i)))) g
theorem C_J17_checkIndex {l : Launch} {s0 : State} (h0 : St0 l s0) : Ctr l s0 yJ17_checkIndex (ws_ yJ17_checkIndex cJ17_checkIndex 3 (Option.some Jvm.ClassFile.FieldType.int)) 1 0 0 T_J17_checkIndex := by
  refine ctr_of h0 (by decide) ?_ ?_
  · rintro av g K ⟨i, n, rfl, hp0, hp1, hK0⟩
    exact Nat.le_of_ble_eq_true rfl
  · rintro Z X av g K G ⟨i, n, rfl, hp0, hp1, hK0⟩
    show Z 0 [some (.int (nI i)), some (.int (nI n)), some (.null)] [] _ _ _
    refine z_iload_n G dJ17_checkIndex_0 rfl rfl rfl ?_
    refine z_if_lt G dJ17_checkIndex_1 rfl (tgt := 9) (by decide) (fun c_1 => ?_) (fun c_1 => ?_)
    · exact absurd ((nI_ltI (a := i) (b := 0) (by omega) (by omega)).mp c_1) (by omega)
    · have c_1n := Int32.not_lt.mp c_1
      have c_1N := (not_congr <| nI_ltI (a := i) (b := 0) (by omega) (by omega)).mp c_1
      refine z_iload_n G dJ17_checkIndex_4 rfl rfl rfl ?_
      refine z_iload_n G dJ17_checkIndex_5 rfl rfl rfl ?_
      refine z_icmp_lt G dJ17_checkIndex_6 rfl (tgt := 16) (by decide) (fun c_6 => ?_) (fun c_6 => ?_)
      · have c_6n := Int32.not_le.mpr c_6
        have c_6N := (nI_ltI (a := i) (b := n) (by omega) (by omega)).mp c_6
        refine z_iload_n G dJ17_checkIndex_16 rfl rfl rfl ?_
        exact z_iret G dJ17_checkIndex_17 rfl rfl (hK0)
      · exact absurd ((not_congr <| nI_ltI (a := i) (b := n) (by omega) (by omega)).mp c_6) (by omega)
def T_J16_checkIndex : List Value → Hp → (Res → Hp → Prop) → Prop := fun av g K => ∃ (i n : Nat), av = [.int (nI i), .int (nI n)] ∧ i < n ∧ n < 2 ^ 31 ∧ K (.inl (some (.int (nI i)))) g
theorem C_J16_checkIndex {l : Launch} {s0 : State} (h0 : St0 l s0) : Ctr l s0 yJ16_checkIndex (ws_ yJ16_checkIndex cJ16_checkIndex 2 (Option.some Jvm.ClassFile.FieldType.int)) 2 0 0 T_J16_checkIndex := by
  refine ctr_of h0 (by decide) ?_ ?_
  · rintro av g K ⟨i, n, rfl, hp0, hp1, hK0⟩
    exact Nat.le_of_ble_eq_true rfl
  · rintro Z X av g K G ⟨i, n, rfl, hp0, hp1, hK0⟩
    show Z 0 [some (.int (nI i)), some (.int (nI n))] [] _ _ _
    refine z_iload_n G dJ16_checkIndex_0 rfl rfl rfl ?_
    refine z_iload_n G dJ16_checkIndex_1 rfl rfl rfl ?_
    refine z_null G dJ16_checkIndex_2 rfl ?_
    refine z_S G dJ16_checkIndex_3 rfl m_J17_checkIndex q853 (C_J17_checkIndex h0) (by decide) (As := [_, _, _]) rfl rfl (Nat.le_of_ble_eq_true rfl) (Nat.zero_le _) (Nat.zero_le _) (⟨i, n, rfl, hp0, hp1, ?_⟩)
    exact z_iret G dJ16_checkIndex_6 rfl rfl (hK0)
def T_J2_get : List Value → Hp → (Res → Hp → Prop) → Prop := fun av g K => ∃ (a b n i L : Nat) (md : Int32) (f : Nat → Option Nat), av = [.ref a, .int (nI i)] ∧ g a = some (.inl (.inr (8, [.int md, .ref b, .int (nI n)]))) ∧ g b = some (zoa L f) ∧ i < n ∧ n ≤ L ∧ L < 2 ^ 31 ∧ K (.inl (some (va_rf (f i)))) g
theorem C_J2_get {l : Launch} {s0 : State} (h0 : St0 l s0) : Ctr l s0 yJ2_get (ws_ yJ2_get cJ2_get 2 (Option.some (Jvm.ClassFile.FieldType.object "java/lang/Object"))) 3 0 0 T_J2_get := by
  refine ctr_of h0 (by decide) ?_ ?_
  · rintro av g K ⟨a, b, n, i, L, md, f, rfl, hp0, hp1, hp2, hp3, hp4, hK0⟩
    exact Nat.le_of_ble_eq_true rfl
  · rintro Z X av g K G ⟨a, b, n, i, L, md, f, rfl, hp0, hp1, hp2, hp3, hp4, hK0⟩
    show Z 0 [some (.ref a), some (.int (nI i))] [] _ _ _
    refine z_iload_n G dJ2_get_0 rfl rfl rfl ?_
    refine z_aload_n G dJ2_get_1 rfl rfl rfl ?_
    refine z_get G dJ2_get_2 rfl (j := 2) fl_J2_48_8 (by assumption) rfl ?_
    refine z_S G dJ2_get_5 rfl m_J16_checkIndex q850 (C_J16_checkIndex h0) (by decide) (As := [_, _]) rfl rfl (Nat.le_of_ble_eq_true rfl) (Nat.zero_le _) (Nat.zero_le _) (⟨i, n, rfl, hp2, by omega, ?_⟩)
    refine z_pop G dJ2_get_8 rfl rfl ?_
    refine z_aload_n G dJ2_get_9 rfl rfl rfl ?_
    refine z_iload_n G dJ2_get_10 rfl rfl rfl ?_
    refine z_V G dJ2_get_11 rfl m_J2_elementData q856 (C_J2_elementData h0) (by decide) (As := [_]) rfl rfl (Nat.le_of_ble_eq_true rfl) (Nat.zero_le _) (Nat.zero_le _) (zhas_K hp0 (zisK_raw _ _) k_J2) (⟨a, b, n, i, L, md, f, rfl, hp0, hp1, by omega, hp4, ?_⟩)
    exact z_aret G dJ2_get_14 rfl rfl (zref_rf _) (hK0)
