/-! THE COMPONENT: reasons -/
def reaC (n d : Int32) (c : Option Nat) : AO := .inl (.inr (3, [.int n, .int d, va_rf c]))
def T_X4_init : List Value → Hp → (Res → Hp → Prop) → Prop := fun av g K => ∃ (a : Nat) (n d x y : Int32) (c z : Option Nat), av = [.ref a, .int n, .int d, va_rf c] ∧ g a = some (reaC x y z) ∧ K (.inl none) (zup g a (reaC n d c))
theorem C_X4_init {l : Launch} {s0 : State} (h0 : St0 l s0) : Ctr l s0 yX4_init (ws_ yX4_init cX4_init 4 (Option.none : Option Jvm.ClassFile.FieldType)) 2 0 0 T_X4_init := by
  refine ctr_of h0 (by decide) ?_ ?_
  · rintro av g K ⟨a, n, d, x, y, c, z, rfl, hp0, hK0⟩
    cases c <;> exact Nat.le_of_ble_eq_true rfl
  · rintro Z X av g K G ⟨a, n, d, x, y, c, z, rfl, hp0, hK0⟩
    rw [show zent [.ref a, .int n, .int d, va_rf c] 4 = [some (.ref a), some (.int n), some (.int d), some (va_rf c)] from by cases c <;> rfl]
    show Z 0 [some (.ref a), some (.int n), some (.int d), some (va_rf c)] [] _ _ _
    refine z_aload_n G dX4_init_0 rfl rfl rfl ?_
    refine z_objInit G dX4_init_1 rfl q1614 (by decide) (Nat.le_of_ble_eq_true rfl) ?_
    refine z_aload_n G dX4_init_4 rfl rfl rfl ?_
    refine z_iload_n G dX4_init_5 rfl rfl rfl ?_
    refine z_putF G dX4_init_6 rfl (j := 0) fl_X4_7_3f rfl hp0 rfl rfl (Nat.le_of_ble_eq_true rfl) ?_
    refine z_aload_n G dX4_init_9 rfl rfl rfl ?_
    refine z_iload_n G dX4_init_10 rfl rfl rfl ?_
    refine z_putF G dX4_init_11 rfl (j := 1) fl_X4_13_3f rfl (zup_s _ _ _) rfl rfl (Nat.le_of_ble_eq_true rfl) ?_
    refine z_aload_n G dX4_init_14 rfl rfl rfl ?_
    refine z_aloadv_n G dX4_init_15 rfl (i := 3) rfl rfl (zref_rf _) ?_
    refine z_putF G dX4_init_16 rfl (j := 2) fl_X4_16_3f rfl (zup_s _ _ _) (by cases c <;> rfl) (by cases c <;> rfl) (Nat.le_of_ble_eq_true rfl) ?_
    exact z_vret G dX4_init_19 rfl (by rw [zup_zup, zup_zup]; exact hK0)
