/-! THE REFERENCE: a new one -/
def iS (j : Nat) : Int32 := if j = 17 then -1 else 0
def iF (_ _ : Nat) : Int32 := 0
def iW (k : Nat) : Int32 := if k = 1 then 21 else 0
def ifs : List Value := [.int 0, .null, .null, .int 0, .int 0, .int 0, .int 0, .null, .null, .null, .null, .int 0, .int 0, .int 0, .null, .int 0, .int 0, .int 0, .null, .int 0, .int 0, .null, .int 0]
theorem zup_no {g : Hp} {a q : Nat} {v : AO} (h : zup g a v q = none) : q ≠ a ∧ g q = none := by
  by_cases e : q = a
  · subst e
    rw [zup_s] at h
    cases h
  · rw [zup_n _ _ e] at h
    exact ⟨e, h⟩
def iA (a b1 b2 b7 b8 b9 b10 b14 b18 b21 : Nat) (j : Nat) : Nat := match j with
  | 1 => b1
  | 2 => b2
  | 7 => b7
  | 8 => b8
  | 9 => b9
  | 10 => b10
  | 14 => b14
  | 18 => b18
  | 0 => a
  | _ => b21
theorem iA_ok {a b1 b2 b7 b8 b9 b10 b14 b18 b21 : Nat} (n_a_b1 : a ≠ b1) (n_a_b2 : a ≠ b2) (n_a_b7 : a ≠ b7) (n_a_b8 : a ≠ b8) (n_a_b9 : a ≠ b9) (n_a_b10 : a ≠ b10) (n_a_b14 : a ≠ b14) (n_a_b18 : a ≠ b18) (n_a_b21 : a ≠ b21) (n_b1_b2 : b1 ≠ b2) (n_b1_b7 : b1 ≠ b7) (n_b1_b8 : b1 ≠ b8) (n_b1_b9 : b1 ≠ b9) (n_b1_b10 : b1 ≠ b10) (n_b1_b14 : b1 ≠ b14) (n_b1_b18 : b1 ≠ b18) (n_b1_b21 : b1 ≠ b21) (n_b2_b7 : b2 ≠ b7) (n_b2_b8 : b2 ≠ b8) (n_b2_b9 : b2 ≠ b9) (n_b2_b10 : b2 ≠ b10) (n_b2_b14 : b2 ≠ b14) (n_b2_b18 : b2 ≠ b18) (n_b2_b21 : b2 ≠ b21) (n_b7_b8 : b7 ≠ b8) (n_b7_b9 : b7 ≠ b9) (n_b7_b10 : b7 ≠ b10) (n_b7_b14 : b7 ≠ b14) (n_b7_b18 : b7 ≠ b18) (n_b7_b21 : b7 ≠ b21) (n_b8_b9 : b8 ≠ b9) (n_b8_b10 : b8 ≠ b10) (n_b8_b14 : b8 ≠ b14) (n_b8_b18 : b8 ≠ b18) (n_b8_b21 : b8 ≠ b21) (n_b9_b10 : b9 ≠ b10) (n_b9_b14 : b9 ≠ b14) (n_b9_b18 : b9 ≠ b18) (n_b9_b21 : b9 ≠ b21) (n_b10_b14 : b10 ≠ b14) (n_b10_b18 : b10 ≠ b18) (n_b10_b21 : b10 ≠ b21) (n_b14_b18 : b14 ≠ b18) (n_b14_b21 : b14 ≠ b21) (n_b18_b21 : b18 ≠ b21) : mok (iA a b1 b2 b7 b8 b9 b10 b14 b18 b21) := by
  intro i hi j hj h
  unfold mj at hi hj
  simp only [List.mem_cons, List.not_mem_nil, or_false] at hi hj
  rcases hi with rfl | rfl | rfl | rfl | rfl | rfl | rfl | rfl | rfl | rfl <;> rcases hj with rfl | rfl | rfl | rfl | rfl | rfl | rfl | rfl | rfl | rfl <;> first
  | rfl
  | exact absurd h n_a_b1
  | exact absurd h.symm n_a_b1
  | exact absurd h n_a_b2
  | exact absurd h.symm n_a_b2
  | exact absurd h n_a_b7
  | exact absurd h.symm n_a_b7
  | exact absurd h n_a_b8
  | exact absurd h.symm n_a_b8
  | exact absurd h n_a_b9
  | exact absurd h.symm n_a_b9
  | exact absurd h n_a_b10
  | exact absurd h.symm n_a_b10
  | exact absurd h n_a_b14
  | exact absurd h.symm n_a_b14
  | exact absurd h n_a_b18
  | exact absurd h.symm n_a_b18
  | exact absurd h n_a_b21
  | exact absurd h.symm n_a_b21
  | exact absurd h n_b1_b2
  | exact absurd h.symm n_b1_b2
  | exact absurd h n_b1_b7
  | exact absurd h.symm n_b1_b7
  | exact absurd h n_b1_b8
  | exact absurd h.symm n_b1_b8
  | exact absurd h n_b1_b9
  | exact absurd h.symm n_b1_b9
  | exact absurd h n_b1_b10
  | exact absurd h.symm n_b1_b10
  | exact absurd h n_b1_b14
  | exact absurd h.symm n_b1_b14
  | exact absurd h n_b1_b18
  | exact absurd h.symm n_b1_b18
  | exact absurd h n_b1_b21
  | exact absurd h.symm n_b1_b21
  | exact absurd h n_b2_b7
  | exact absurd h.symm n_b2_b7
  | exact absurd h n_b2_b8
  | exact absurd h.symm n_b2_b8
  | exact absurd h n_b2_b9
  | exact absurd h.symm n_b2_b9
  | exact absurd h n_b2_b10
  | exact absurd h.symm n_b2_b10
  | exact absurd h n_b2_b14
  | exact absurd h.symm n_b2_b14
  | exact absurd h n_b2_b18
  | exact absurd h.symm n_b2_b18
  | exact absurd h n_b2_b21
  | exact absurd h.symm n_b2_b21
  | exact absurd h n_b7_b8
  | exact absurd h.symm n_b7_b8
  | exact absurd h n_b7_b9
  | exact absurd h.symm n_b7_b9
  | exact absurd h n_b7_b10
  | exact absurd h.symm n_b7_b10
  | exact absurd h n_b7_b14
  | exact absurd h.symm n_b7_b14
  | exact absurd h n_b7_b18
  | exact absurd h.symm n_b7_b18
  | exact absurd h n_b7_b21
  | exact absurd h.symm n_b7_b21
  | exact absurd h n_b8_b9
  | exact absurd h.symm n_b8_b9
  | exact absurd h n_b8_b10
  | exact absurd h.symm n_b8_b10
  | exact absurd h n_b8_b14
  | exact absurd h.symm n_b8_b14
  | exact absurd h n_b8_b18
  | exact absurd h.symm n_b8_b18
  | exact absurd h n_b8_b21
  | exact absurd h.symm n_b8_b21
  | exact absurd h n_b9_b10
  | exact absurd h.symm n_b9_b10
  | exact absurd h n_b9_b14
  | exact absurd h.symm n_b9_b14
  | exact absurd h n_b9_b18
  | exact absurd h.symm n_b9_b18
  | exact absurd h n_b9_b21
  | exact absurd h.symm n_b9_b21
  | exact absurd h n_b10_b14
  | exact absurd h.symm n_b10_b14
  | exact absurd h n_b10_b18
  | exact absurd h.symm n_b10_b18
  | exact absurd h n_b10_b21
  | exact absurd h.symm n_b10_b21
  | exact absurd h n_b14_b18
  | exact absurd h.symm n_b14_b18
  | exact absurd h n_b14_b21
  | exact absurd h.symm n_b14_b21
  | exact absurd h n_b18_b21
  | exact absurd h.symm n_b18_b21
theorem i_mdl {g : Hp} {a b1 b2 b7 b8 b9 b10 b14 b18 b21 : Nat} (n_a_b1 : a ≠ b1) (n_a_b2 : a ≠ b2) (n_a_b7 : a ≠ b7) (n_a_b8 : a ≠ b8) (n_a_b9 : a ≠ b9) (n_a_b10 : a ≠ b10) (n_a_b14 : a ≠ b14) (n_a_b18 : a ≠ b18) (n_a_b21 : a ≠ b21) (n_b1_b2 : b1 ≠ b2) (n_b1_b7 : b1 ≠ b7) (n_b1_b8 : b1 ≠ b8) (n_b1_b9 : b1 ≠ b9) (n_b1_b10 : b1 ≠ b10) (n_b1_b14 : b1 ≠ b14) (n_b1_b18 : b1 ≠ b18) (n_b1_b21 : b1 ≠ b21) (n_b2_b7 : b2 ≠ b7) (n_b2_b8 : b2 ≠ b8) (n_b2_b9 : b2 ≠ b9) (n_b2_b10 : b2 ≠ b10) (n_b2_b14 : b2 ≠ b14) (n_b2_b18 : b2 ≠ b18) (n_b2_b21 : b2 ≠ b21) (n_b7_b8 : b7 ≠ b8) (n_b7_b9 : b7 ≠ b9) (n_b7_b10 : b7 ≠ b10) (n_b7_b14 : b7 ≠ b14) (n_b7_b18 : b7 ≠ b18) (n_b7_b21 : b7 ≠ b21) (n_b8_b9 : b8 ≠ b9) (n_b8_b10 : b8 ≠ b10) (n_b8_b14 : b8 ≠ b14) (n_b8_b18 : b8 ≠ b18) (n_b8_b21 : b8 ≠ b21) (n_b9_b10 : b9 ≠ b10) (n_b9_b14 : b9 ≠ b14) (n_b9_b18 : b9 ≠ b18) (n_b9_b21 : b9 ≠ b21) (n_b10_b14 : b10 ≠ b14) (n_b10_b18 : b10 ≠ b18) (n_b10_b21 : b10 ≠ b21) (n_b14_b18 : b14 ≠ b18) (n_b14_b21 : b14 ≠ b21) (n_b18_b21 : b18 ≠ b21) {S : Nat → Int32} : zup (zup (zup (zup (zup (zup (zup (zup (zup (zup g b1 (ziar 3 (fun _ => 0))) b2 (ziar 3 (fun _ => 0))) b7 (ziar 99 (fun _ => 0))) b8 (ziar 792 (fun _ => 0))) b9 (ziar 99 (fun _ => 0))) b10 (ziar 99 (fun _ => 0))) b14 (zcar 60 (fun _ => 0))) b18 (ziar 2 (fun _ => 0))) b21 (zcar 90 (fun _ => 0))) a (.inl (.inr (2, mfs (iA a b1 b2 b7 b8 b9 b10 b14 b18 b21) S))) = mdl (iA a b1 b2 b7 b8 b9 b10 b14 b18 b21) S iF (fun _ => 0) g := by
  have hA : mok (iA a b1 b2 b7 b8 b9 b10 b14 b18 b21) := iA_ok n_a_b1 n_a_b2 n_a_b7 n_a_b8 n_a_b9 n_a_b10 n_a_b14 n_a_b18 n_a_b21 n_b1_b2 n_b1_b7 n_b1_b8 n_b1_b9 n_b1_b10 n_b1_b14 n_b1_b18 n_b1_b21 n_b2_b7 n_b2_b8 n_b2_b9 n_b2_b10 n_b2_b14 n_b2_b18 n_b2_b21 n_b7_b8 n_b7_b9 n_b7_b10 n_b7_b14 n_b7_b18 n_b7_b21 n_b8_b9 n_b8_b10 n_b8_b14 n_b8_b18 n_b8_b21 n_b9_b10 n_b9_b14 n_b9_b18 n_b9_b21 n_b10_b14 n_b10_b18 n_b10_b21 n_b14_b18 n_b14_b21 n_b18_b21
  funext q
  by_cases e_a : q = a
  · rw [show mdl (iA a b1 b2 b7 b8 b9 b10 b14 b18 b21) S iF (fun _ => 0) g q = some (mcell (iA a b1 b2 b7 b8 b9 b10 b14 b18 b21) S iF (fun _ => 0) 0) by rw [e_a]; exact mdl_at hA (j := 0) (by decide)]
    rw [e_a, zup_s]
    rfl
  by_cases e_b21 : q = b21
  · rw [show mdl (iA a b1 b2 b7 b8 b9 b10 b14 b18 b21) S iF (fun _ => 0) g q = some (mcell (iA a b1 b2 b7 b8 b9 b10 b14 b18 b21) S iF (fun _ => 0) 21) by rw [e_b21]; exact mdl_at hA (j := 21) (by decide)]
    rw [zup_n _ _ e_a]
    rw [e_b21, zup_s]
    rfl
  by_cases e_b18 : q = b18
  · rw [show mdl (iA a b1 b2 b7 b8 b9 b10 b14 b18 b21) S iF (fun _ => 0) g q = some (mcell (iA a b1 b2 b7 b8 b9 b10 b14 b18 b21) S iF (fun _ => 0) 18) by rw [e_b18]; exact mdl_at hA (j := 18) (by decide)]
    rw [zup_n _ _ e_a, zup_n _ _ e_b21]
    rw [e_b18, zup_s]
    rfl
  by_cases e_b14 : q = b14
  · rw [show mdl (iA a b1 b2 b7 b8 b9 b10 b14 b18 b21) S iF (fun _ => 0) g q = some (mcell (iA a b1 b2 b7 b8 b9 b10 b14 b18 b21) S iF (fun _ => 0) 14) by rw [e_b14]; exact mdl_at hA (j := 14) (by decide)]
    rw [zup_n _ _ e_a, zup_n _ _ e_b21, zup_n _ _ e_b18]
    rw [e_b14, zup_s]
    rfl
  by_cases e_b10 : q = b10
  · rw [show mdl (iA a b1 b2 b7 b8 b9 b10 b14 b18 b21) S iF (fun _ => 0) g q = some (mcell (iA a b1 b2 b7 b8 b9 b10 b14 b18 b21) S iF (fun _ => 0) 10) by rw [e_b10]; exact mdl_at hA (j := 10) (by decide)]
    rw [zup_n _ _ e_a, zup_n _ _ e_b21, zup_n _ _ e_b18, zup_n _ _ e_b14]
    rw [e_b10, zup_s]
    rfl
  by_cases e_b9 : q = b9
  · rw [show mdl (iA a b1 b2 b7 b8 b9 b10 b14 b18 b21) S iF (fun _ => 0) g q = some (mcell (iA a b1 b2 b7 b8 b9 b10 b14 b18 b21) S iF (fun _ => 0) 9) by rw [e_b9]; exact mdl_at hA (j := 9) (by decide)]
    rw [zup_n _ _ e_a, zup_n _ _ e_b21, zup_n _ _ e_b18, zup_n _ _ e_b14, zup_n _ _ e_b10]
    rw [e_b9, zup_s]
    rfl
  by_cases e_b8 : q = b8
  · rw [show mdl (iA a b1 b2 b7 b8 b9 b10 b14 b18 b21) S iF (fun _ => 0) g q = some (mcell (iA a b1 b2 b7 b8 b9 b10 b14 b18 b21) S iF (fun _ => 0) 8) by rw [e_b8]; exact mdl_at hA (j := 8) (by decide)]
    rw [zup_n _ _ e_a, zup_n _ _ e_b21, zup_n _ _ e_b18, zup_n _ _ e_b14, zup_n _ _ e_b10, zup_n _ _ e_b9]
    rw [e_b8, zup_s]
    rfl
  by_cases e_b7 : q = b7
  · rw [show mdl (iA a b1 b2 b7 b8 b9 b10 b14 b18 b21) S iF (fun _ => 0) g q = some (mcell (iA a b1 b2 b7 b8 b9 b10 b14 b18 b21) S iF (fun _ => 0) 7) by rw [e_b7]; exact mdl_at hA (j := 7) (by decide)]
    rw [zup_n _ _ e_a, zup_n _ _ e_b21, zup_n _ _ e_b18, zup_n _ _ e_b14, zup_n _ _ e_b10, zup_n _ _ e_b9, zup_n _ _ e_b8]
    rw [e_b7, zup_s]
    rfl
  by_cases e_b2 : q = b2
  · rw [show mdl (iA a b1 b2 b7 b8 b9 b10 b14 b18 b21) S iF (fun _ => 0) g q = some (mcell (iA a b1 b2 b7 b8 b9 b10 b14 b18 b21) S iF (fun _ => 0) 2) by rw [e_b2]; exact mdl_at hA (j := 2) (by decide)]
    rw [zup_n _ _ e_a, zup_n _ _ e_b21, zup_n _ _ e_b18, zup_n _ _ e_b14, zup_n _ _ e_b10, zup_n _ _ e_b9, zup_n _ _ e_b8, zup_n _ _ e_b7]
    rw [e_b2, zup_s]
    rfl
  by_cases e_b1 : q = b1
  · rw [show mdl (iA a b1 b2 b7 b8 b9 b10 b14 b18 b21) S iF (fun _ => 0) g q = some (mcell (iA a b1 b2 b7 b8 b9 b10 b14 b18 b21) S iF (fun _ => 0) 1) by rw [e_b1]; exact mdl_at hA (j := 1) (by decide)]
    rw [zup_n _ _ e_a, zup_n _ _ e_b21, zup_n _ _ e_b18, zup_n _ _ e_b14, zup_n _ _ e_b10, zup_n _ _ e_b9, zup_n _ _ e_b8, zup_n _ _ e_b7, zup_n _ _ e_b2]
    rw [e_b1, zup_s]
    rfl
  rw [zup_n _ _ e_a, zup_n _ _ e_b21, zup_n _ _ e_b18, zup_n _ _ e_b14, zup_n _ _ e_b10, zup_n _ _ e_b9, zup_n _ _ e_b8, zup_n _ _ e_b7, zup_n _ _ e_b2, zup_n _ _ e_b1]
  refine ((zov_out (mce_none (fun j hj => ?_)) e_a).symm)
  unfold mj at hj
  simp only [List.mem_cons, List.not_mem_nil, or_false] at hj
  rcases hj with rfl | rfl | rfl | rfl | rfl | rfl | rfl | rfl | rfl | rfl
  · exact fun h => e_a h.symm
  · exact fun h => e_b1 h.symm
  · exact fun h => e_b2 h.symm
  · exact fun h => e_b7 h.symm
  · exact fun h => e_b8 h.symm
  · exact fun h => e_b9 h.symm
  · exact fun h => e_b10 h.symm
  · exact fun h => e_b14 h.symm
  · exact fun h => e_b18 h.symm
  · exact fun h => e_b21 h.symm
def T_X3_init : List Value → Hp → (Res → Hp → Prop) → Prop := fun av g K => ∃ a : Nat, av = [.ref a] ∧ g a = some (.inl (.inr (2, ifs))) ∧ (∀ A, mok A → A 0 = a → (∀ j ∈ mj, j ≠ 0 → g (A j) = none) → K (.inl none) (mdl A iS iF iW g))
theorem C_X3_init {l : Launch} {s0 : State} (h0 : St0 l s0) : Ctr l s0 yX3_init (ws_ yX3_init cX3_init 1 (Option.none : Option Jvm.ClassFile.FieldType)) 2 9 1247 T_X3_init := by
  refine ctr_of h0 (by decide) ?_ ?_
  · rintro av g K ⟨a, rfl, hg, hK⟩
    exact Nat.le_of_ble_eq_true rfl
  · rintro Z X av g K G ⟨a, rfl, hg, hK⟩
    show Z 0 [some (.ref a)] [] _ _ _
    refine z_aload_n G dX3_init_0 rfl rfl rfl ?_
    refine z_objInit G dX3_init_1 rfl q2584 (by decide) (Nat.le_of_ble_eq_true rfl) ?_
    rw [← zup_id hg]
    refine z_aload_n G dX3_init_4 rfl rfl rfl ?_
    refine z_iconst G dX3_init_5 rfl (v := 3) (by decide) ?_
    refine z_newa G dX3_init_6 rfl (ty := .int) rfl q284 rfl (fun _ _ h => h) (N := 3) (a0 := (3, .inl (fun _ => 0))) (fun _ => rfl) rfl (by decide) (Nat.le_of_ble_eq_true rfl) (Nat.le_of_ble_eq_true rfl) (fun b1 hb1 => ?_)
    obtain ⟨n_a_b1s, h1⟩ := zup_no hb1
    have n_a_b1 : a ≠ b1 := fun e => n_a_b1s e.symm
    rw [zup_comm _ _ _ n_a_b1]
    refine z_putF G dX3_init_8 rfl (j := 1) fl_X3_7_2f rfl (zup_s _ _ _) rfl rfl (Nat.le_of_ble_eq_true rfl) ?_
    rw [zup_zup]
    show Z 11 [some (.ref a)] [] (zup (zup g b1 (ziar 3 (fun _ => 0))) a (.inl (.inr (2, [.int 0, .ref b1, .null, .int 0, .int 0, .int 0, .int 0, .null, .null, .null, .null, .int 0, .int 0, .int 0, .null, .int 0, .int 0, .int 0, .null, .int 0, .int 0, .null, .int 0])))) 8 1244
    refine z_aload_n G dX3_init_11 rfl rfl rfl ?_
    refine z_iconst G dX3_init_12 rfl (v := 3) (by decide) ?_
    refine z_newa G dX3_init_13 rfl (ty := .int) rfl q284 rfl (fun _ _ h => h) (N := 3) (a0 := (3, .inl (fun _ => 0))) (fun _ => rfl) rfl (by decide) (Nat.le_of_ble_eq_true rfl) (Nat.le_of_ble_eq_true rfl) (fun b2 hb2 => ?_)
    obtain ⟨n_a_b2s, h2⟩ := zup_no hb2
    have n_a_b2 : a ≠ b2 := fun e => n_a_b2s e.symm
    obtain ⟨n_b1_b2s, h2⟩ := zup_no h2
    have n_b1_b2 : b1 ≠ b2 := fun e => n_b1_b2s e.symm
    rw [zup_comm _ _ _ n_a_b2]
    refine z_putF G dX3_init_15 rfl (j := 2) fl_X3_13_2f rfl (zup_s _ _ _) rfl rfl (Nat.le_of_ble_eq_true rfl) ?_
    rw [zup_zup]
    show Z 18 [some (.ref a)] [] (zup (zup (zup g b1 (ziar 3 (fun _ => 0))) b2 (ziar 3 (fun _ => 0))) a (.inl (.inr (2, [.int 0, .ref b1, .ref b2, .int 0, .int 0, .int 0, .int 0, .null, .null, .null, .null, .int 0, .int 0, .int 0, .null, .int 0, .int 0, .int 0, .null, .int 0, .int 0, .null, .int 0])))) 7 1241
    refine z_aload_n G dX3_init_18 rfl rfl rfl ?_
    refine z_bipush G dX3_init_19 rfl (v := 99) (by decide) ?_
    refine z_newa G dX3_init_21 rfl (ty := .int) rfl q284 rfl (fun _ _ h => h) (N := 99) (a0 := (99, .inl (fun _ => 0))) (fun _ => rfl) rfl (by decide) (Nat.le_of_ble_eq_true rfl) (Nat.le_of_ble_eq_true rfl) (fun b7 hb7 => ?_)
    obtain ⟨n_a_b7s, h7⟩ := zup_no hb7
    have n_a_b7 : a ≠ b7 := fun e => n_a_b7s e.symm
    obtain ⟨n_b2_b7s, h7⟩ := zup_no h7
    have n_b2_b7 : b2 ≠ b7 := fun e => n_b2_b7s e.symm
    obtain ⟨n_b1_b7s, h7⟩ := zup_no h7
    have n_b1_b7 : b1 ≠ b7 := fun e => n_b1_b7s e.symm
    rw [zup_comm _ _ _ n_a_b7]
    refine z_putF G dX3_init_23 rfl (j := 7) fl_X3_16_2f rfl (zup_s _ _ _) rfl rfl (Nat.le_of_ble_eq_true rfl) ?_
    rw [zup_zup]
    show Z 26 [some (.ref a)] [] (zup (zup (zup (zup g b1 (ziar 3 (fun _ => 0))) b2 (ziar 3 (fun _ => 0))) b7 (ziar 99 (fun _ => 0))) a (.inl (.inr (2, [.int 0, .ref b1, .ref b2, .int 0, .int 0, .int 0, .int 0, .ref b7, .null, .null, .null, .int 0, .int 0, .int 0, .null, .int 0, .int 0, .int 0, .null, .int 0, .int 0, .null, .int 0])))) 6 1142
    refine z_aload_n G dX3_init_26 rfl rfl rfl ?_
    refine z_sipush G dX3_init_27 rfl (v := 792) (by decide) ?_
    refine z_newa G dX3_init_30 rfl (ty := .int) rfl q284 rfl (fun _ _ h => h) (N := 792) (a0 := (792, .inl (fun _ => 0))) (fun _ => rfl) rfl (by decide) (Nat.le_of_ble_eq_true rfl) (Nat.le_of_ble_eq_true rfl) (fun b8 hb8 => ?_)
    obtain ⟨n_a_b8s, h8⟩ := zup_no hb8
    have n_a_b8 : a ≠ b8 := fun e => n_a_b8s e.symm
    obtain ⟨n_b7_b8s, h8⟩ := zup_no h8
    have n_b7_b8 : b7 ≠ b8 := fun e => n_b7_b8s e.symm
    obtain ⟨n_b2_b8s, h8⟩ := zup_no h8
    have n_b2_b8 : b2 ≠ b8 := fun e => n_b2_b8s e.symm
    obtain ⟨n_b1_b8s, h8⟩ := zup_no h8
    have n_b1_b8 : b1 ≠ b8 := fun e => n_b1_b8s e.symm
    rw [zup_comm _ _ _ n_a_b8]
    refine z_putF G dX3_init_32 rfl (j := 8) fl_X3_19_2f rfl (zup_s _ _ _) rfl rfl (Nat.le_of_ble_eq_true rfl) ?_
    rw [zup_zup]
    show Z 35 [some (.ref a)] [] (zup (zup (zup (zup (zup g b1 (ziar 3 (fun _ => 0))) b2 (ziar 3 (fun _ => 0))) b7 (ziar 99 (fun _ => 0))) b8 (ziar 792 (fun _ => 0))) a (.inl (.inr (2, [.int 0, .ref b1, .ref b2, .int 0, .int 0, .int 0, .int 0, .ref b7, .ref b8, .null, .null, .int 0, .int 0, .int 0, .null, .int 0, .int 0, .int 0, .null, .int 0, .int 0, .null, .int 0])))) 5 350
    refine z_aload_n G dX3_init_35 rfl rfl rfl ?_
    refine z_bipush G dX3_init_36 rfl (v := 99) (by decide) ?_
    refine z_newa G dX3_init_38 rfl (ty := .int) rfl q284 rfl (fun _ _ h => h) (N := 99) (a0 := (99, .inl (fun _ => 0))) (fun _ => rfl) rfl (by decide) (Nat.le_of_ble_eq_true rfl) (Nat.le_of_ble_eq_true rfl) (fun b9 hb9 => ?_)
    obtain ⟨n_a_b9s, h9⟩ := zup_no hb9
    have n_a_b9 : a ≠ b9 := fun e => n_a_b9s e.symm
    obtain ⟨n_b8_b9s, h9⟩ := zup_no h9
    have n_b8_b9 : b8 ≠ b9 := fun e => n_b8_b9s e.symm
    obtain ⟨n_b7_b9s, h9⟩ := zup_no h9
    have n_b7_b9 : b7 ≠ b9 := fun e => n_b7_b9s e.symm
    obtain ⟨n_b2_b9s, h9⟩ := zup_no h9
    have n_b2_b9 : b2 ≠ b9 := fun e => n_b2_b9s e.symm
    obtain ⟨n_b1_b9s, h9⟩ := zup_no h9
    have n_b1_b9 : b1 ≠ b9 := fun e => n_b1_b9s e.symm
    rw [zup_comm _ _ _ n_a_b9]
    refine z_putF G dX3_init_40 rfl (j := 9) fl_X3_22_2f rfl (zup_s _ _ _) rfl rfl (Nat.le_of_ble_eq_true rfl) ?_
    rw [zup_zup]
    show Z 43 [some (.ref a)] [] (zup (zup (zup (zup (zup (zup g b1 (ziar 3 (fun _ => 0))) b2 (ziar 3 (fun _ => 0))) b7 (ziar 99 (fun _ => 0))) b8 (ziar 792 (fun _ => 0))) b9 (ziar 99 (fun _ => 0))) a (.inl (.inr (2, [.int 0, .ref b1, .ref b2, .int 0, .int 0, .int 0, .int 0, .ref b7, .ref b8, .ref b9, .null, .int 0, .int 0, .int 0, .null, .int 0, .int 0, .int 0, .null, .int 0, .int 0, .null, .int 0])))) 4 251
    refine z_aload_n G dX3_init_43 rfl rfl rfl ?_
    refine z_bipush G dX3_init_44 rfl (v := 99) (by decide) ?_
    refine z_newa G dX3_init_46 rfl (ty := .int) rfl q284 rfl (fun _ _ h => h) (N := 99) (a0 := (99, .inl (fun _ => 0))) (fun _ => rfl) rfl (by decide) (Nat.le_of_ble_eq_true rfl) (Nat.le_of_ble_eq_true rfl) (fun b10 hb10 => ?_)
    obtain ⟨n_a_b10s, h10⟩ := zup_no hb10
    have n_a_b10 : a ≠ b10 := fun e => n_a_b10s e.symm
    obtain ⟨n_b9_b10s, h10⟩ := zup_no h10
    have n_b9_b10 : b9 ≠ b10 := fun e => n_b9_b10s e.symm
    obtain ⟨n_b8_b10s, h10⟩ := zup_no h10
    have n_b8_b10 : b8 ≠ b10 := fun e => n_b8_b10s e.symm
    obtain ⟨n_b7_b10s, h10⟩ := zup_no h10
    have n_b7_b10 : b7 ≠ b10 := fun e => n_b7_b10s e.symm
    obtain ⟨n_b2_b10s, h10⟩ := zup_no h10
    have n_b2_b10 : b2 ≠ b10 := fun e => n_b2_b10s e.symm
    obtain ⟨n_b1_b10s, h10⟩ := zup_no h10
    have n_b1_b10 : b1 ≠ b10 := fun e => n_b1_b10s e.symm
    rw [zup_comm _ _ _ n_a_b10]
    refine z_putF G dX3_init_48 rfl (j := 10) fl_X3_25_2f rfl (zup_s _ _ _) rfl rfl (Nat.le_of_ble_eq_true rfl) ?_
    rw [zup_zup]
    show Z 51 [some (.ref a)] [] (zup (zup (zup (zup (zup (zup (zup g b1 (ziar 3 (fun _ => 0))) b2 (ziar 3 (fun _ => 0))) b7 (ziar 99 (fun _ => 0))) b8 (ziar 792 (fun _ => 0))) b9 (ziar 99 (fun _ => 0))) b10 (ziar 99 (fun _ => 0))) a (.inl (.inr (2, [.int 0, .ref b1, .ref b2, .int 0, .int 0, .int 0, .int 0, .ref b7, .ref b8, .ref b9, .ref b10, .int 0, .int 0, .int 0, .null, .int 0, .int 0, .int 0, .null, .int 0, .int 0, .null, .int 0])))) 3 152
    refine z_aload_n G dX3_init_51 rfl rfl rfl ?_
    refine z_bipush G dX3_init_52 rfl (v := 60) (by decide) ?_
    refine z_newa G dX3_init_54 rfl (ty := .char) rfl q2655 rfl (fun _ _ h => h) (N := 60) (a0 := (60, .inl (fun _ => 0))) (fun _ => rfl) rfl (by decide) (Nat.le_of_ble_eq_true rfl) (Nat.le_of_ble_eq_true rfl) (fun b14 hb14 => ?_)
    obtain ⟨n_a_b14s, h14⟩ := zup_no hb14
    have n_a_b14 : a ≠ b14 := fun e => n_a_b14s e.symm
    obtain ⟨n_b10_b14s, h14⟩ := zup_no h14
    have n_b10_b14 : b10 ≠ b14 := fun e => n_b10_b14s e.symm
    obtain ⟨n_b9_b14s, h14⟩ := zup_no h14
    have n_b9_b14 : b9 ≠ b14 := fun e => n_b9_b14s e.symm
    obtain ⟨n_b8_b14s, h14⟩ := zup_no h14
    have n_b8_b14 : b8 ≠ b14 := fun e => n_b8_b14s e.symm
    obtain ⟨n_b7_b14s, h14⟩ := zup_no h14
    have n_b7_b14 : b7 ≠ b14 := fun e => n_b7_b14s e.symm
    obtain ⟨n_b2_b14s, h14⟩ := zup_no h14
    have n_b2_b14 : b2 ≠ b14 := fun e => n_b2_b14s e.symm
    obtain ⟨n_b1_b14s, h14⟩ := zup_no h14
    have n_b1_b14 : b1 ≠ b14 := fun e => n_b1_b14s e.symm
    rw [zup_comm _ _ _ n_a_b14]
    refine z_putF G dX3_init_56 rfl (j := 14) fl_X3_28_2f rfl (zup_s _ _ _) rfl rfl (Nat.le_of_ble_eq_true rfl) ?_
    rw [zup_zup]
    show Z 59 [some (.ref a)] [] (zup (zup (zup (zup (zup (zup (zup (zup g b1 (ziar 3 (fun _ => 0))) b2 (ziar 3 (fun _ => 0))) b7 (ziar 99 (fun _ => 0))) b8 (ziar 792 (fun _ => 0))) b9 (ziar 99 (fun _ => 0))) b10 (ziar 99 (fun _ => 0))) b14 (zcar 60 (fun _ => 0))) a (.inl (.inr (2, [.int 0, .ref b1, .ref b2, .int 0, .int 0, .int 0, .int 0, .ref b7, .ref b8, .ref b9, .ref b10, .int 0, .int 0, .int 0, .ref b14, .int 0, .int 0, .int 0, .null, .int 0, .int 0, .null, .int 0])))) 2 92
    refine z_aload_n G dX3_init_59 rfl rfl rfl ?_
    refine z_iconst G dX3_init_60 rfl (v := (-1)) (by decide) ?_
    refine z_put G dX3_init_61 rfl (j := 17) fl_X3_32_2p (zup_s _ _ _) rfl rfl (Nat.le_of_ble_eq_true rfl) ?_
    rw [zup_zup]
    show Z 64 [some (.ref a)] [] (zup (zup (zup (zup (zup (zup (zup (zup g b1 (ziar 3 (fun _ => 0))) b2 (ziar 3 (fun _ => 0))) b7 (ziar 99 (fun _ => 0))) b8 (ziar 792 (fun _ => 0))) b9 (ziar 99 (fun _ => 0))) b10 (ziar 99 (fun _ => 0))) b14 (zcar 60 (fun _ => 0))) a (.inl (.inr (2, [.int 0, .ref b1, .ref b2, .int 0, .int 0, .int 0, .int 0, .ref b7, .ref b8, .ref b9, .ref b10, .int 0, .int 0, .int 0, .ref b14, .int 0, .int 0, .int (-1), .null, .int 0, .int 0, .null, .int 0])))) 2 92
    refine z_aload_n G dX3_init_64 rfl rfl rfl ?_
    refine z_iconst G dX3_init_65 rfl (v := 2) (by decide) ?_
    refine z_newa G dX3_init_66 rfl (ty := .int) rfl q284 rfl (fun _ _ h => h) (N := 2) (a0 := (2, .inl (fun _ => 0))) (fun _ => rfl) rfl (by decide) (Nat.le_of_ble_eq_true rfl) (Nat.le_of_ble_eq_true rfl) (fun b18 hb18 => ?_)
    obtain ⟨n_a_b18s, h18⟩ := zup_no hb18
    have n_a_b18 : a ≠ b18 := fun e => n_a_b18s e.symm
    obtain ⟨n_b14_b18s, h18⟩ := zup_no h18
    have n_b14_b18 : b14 ≠ b18 := fun e => n_b14_b18s e.symm
    obtain ⟨n_b10_b18s, h18⟩ := zup_no h18
    have n_b10_b18 : b10 ≠ b18 := fun e => n_b10_b18s e.symm
    obtain ⟨n_b9_b18s, h18⟩ := zup_no h18
    have n_b9_b18 : b9 ≠ b18 := fun e => n_b9_b18s e.symm
    obtain ⟨n_b8_b18s, h18⟩ := zup_no h18
    have n_b8_b18 : b8 ≠ b18 := fun e => n_b8_b18s e.symm
    obtain ⟨n_b7_b18s, h18⟩ := zup_no h18
    have n_b7_b18 : b7 ≠ b18 := fun e => n_b7_b18s e.symm
    obtain ⟨n_b2_b18s, h18⟩ := zup_no h18
    have n_b2_b18 : b2 ≠ b18 := fun e => n_b2_b18s e.symm
    obtain ⟨n_b1_b18s, h18⟩ := zup_no h18
    have n_b1_b18 : b1 ≠ b18 := fun e => n_b1_b18s e.symm
    rw [zup_comm _ _ _ n_a_b18]
    refine z_putF G dX3_init_68 rfl (j := 18) fl_X3_36_2f rfl (zup_s _ _ _) rfl rfl (Nat.le_of_ble_eq_true rfl) ?_
    rw [zup_zup]
    show Z 71 [some (.ref a)] [] (zup (zup (zup (zup (zup (zup (zup (zup (zup g b1 (ziar 3 (fun _ => 0))) b2 (ziar 3 (fun _ => 0))) b7 (ziar 99 (fun _ => 0))) b8 (ziar 792 (fun _ => 0))) b9 (ziar 99 (fun _ => 0))) b10 (ziar 99 (fun _ => 0))) b14 (zcar 60 (fun _ => 0))) b18 (ziar 2 (fun _ => 0))) a (.inl (.inr (2, [.int 0, .ref b1, .ref b2, .int 0, .int 0, .int 0, .int 0, .ref b7, .ref b8, .ref b9, .ref b10, .int 0, .int 0, .int 0, .ref b14, .int 0, .int 0, .int (-1), .ref b18, .int 0, .int 0, .null, .int 0])))) 1 90
    refine z_aload_n G dX3_init_71 rfl rfl rfl ?_
    refine z_bipush G dX3_init_72 rfl (v := 90) (by decide) ?_
    refine z_newa G dX3_init_74 rfl (ty := .char) rfl q2655 rfl (fun _ _ h => h) (N := 90) (a0 := (90, .inl (fun _ => 0))) (fun _ => rfl) rfl (by decide) (Nat.le_of_ble_eq_true rfl) (Nat.le_of_ble_eq_true rfl) (fun b21 hb21 => ?_)
    obtain ⟨n_a_b21s, h21⟩ := zup_no hb21
    have n_a_b21 : a ≠ b21 := fun e => n_a_b21s e.symm
    obtain ⟨n_b18_b21s, h21⟩ := zup_no h21
    have n_b18_b21 : b18 ≠ b21 := fun e => n_b18_b21s e.symm
    obtain ⟨n_b14_b21s, h21⟩ := zup_no h21
    have n_b14_b21 : b14 ≠ b21 := fun e => n_b14_b21s e.symm
    obtain ⟨n_b10_b21s, h21⟩ := zup_no h21
    have n_b10_b21 : b10 ≠ b21 := fun e => n_b10_b21s e.symm
    obtain ⟨n_b9_b21s, h21⟩ := zup_no h21
    have n_b9_b21 : b9 ≠ b21 := fun e => n_b9_b21s e.symm
    obtain ⟨n_b8_b21s, h21⟩ := zup_no h21
    have n_b8_b21 : b8 ≠ b21 := fun e => n_b8_b21s e.symm
    obtain ⟨n_b7_b21s, h21⟩ := zup_no h21
    have n_b7_b21 : b7 ≠ b21 := fun e => n_b7_b21s e.symm
    obtain ⟨n_b2_b21s, h21⟩ := zup_no h21
    have n_b2_b21 : b2 ≠ b21 := fun e => n_b2_b21s e.symm
    obtain ⟨n_b1_b21s, h21⟩ := zup_no h21
    have n_b1_b21 : b1 ≠ b21 := fun e => n_b1_b21s e.symm
    rw [zup_comm _ _ _ n_a_b21]
    refine z_putF G dX3_init_76 rfl (j := 21) fl_X3_39_2f rfl (zup_s _ _ _) rfl rfl (Nat.le_of_ble_eq_true rfl) ?_
    rw [zup_zup]
    show Z 79 [some (.ref a)] [] (zup (zup (zup (zup (zup (zup (zup (zup (zup (zup g b1 (ziar 3 (fun _ => 0))) b2 (ziar 3 (fun _ => 0))) b7 (ziar 99 (fun _ => 0))) b8 (ziar 792 (fun _ => 0))) b9 (ziar 99 (fun _ => 0))) b10 (ziar 99 (fun _ => 0))) b14 (zcar 60 (fun _ => 0))) b18 (ziar 2 (fun _ => 0))) b21 (zcar 90 (fun _ => 0))) a (.inl (.inr (2, [.int 0, .ref b1, .ref b2, .int 0, .int 0, .int 0, .int 0, .ref b7, .ref b8, .ref b9, .ref b10, .int 0, .int 0, .int 0, .ref b14, .int 0, .int 0, .int (-1), .ref b18, .int 0, .int 0, .ref b21, .int 0])))) 0 0
    have hA : mok (iA a b1 b2 b7 b8 b9 b10 b14 b18 b21) := iA_ok n_a_b1 n_a_b2 n_a_b7 n_a_b8 n_a_b9 n_a_b10 n_a_b14 n_a_b18 n_a_b21 n_b1_b2 n_b1_b7 n_b1_b8 n_b1_b9 n_b1_b10 n_b1_b14 n_b1_b18 n_b1_b21 n_b2_b7 n_b2_b8 n_b2_b9 n_b2_b10 n_b2_b14 n_b2_b18 n_b2_b21 n_b7_b8 n_b7_b9 n_b7_b10 n_b7_b14 n_b7_b18 n_b7_b21 n_b8_b9 n_b8_b10 n_b8_b14 n_b8_b18 n_b8_b21 n_b9_b10 n_b9_b14 n_b9_b18 n_b9_b21 n_b10_b14 n_b10_b18 n_b10_b21 n_b14_b18 n_b14_b21 n_b18_b21
    have hL : [.int 0, .ref b1, .ref b2, .int 0, .int 0, .int 0, .int 0, .ref b7, .ref b8, .ref b9, .ref b10, .int 0, .int 0, .int 0, .ref b14, .int 0, .int 0, .int (-1), .ref b18, .int 0, .int 0, .ref b21, .int 0] = mfs (iA a b1 b2 b7 b8 b9 b10 b14 b18 b21) iS := rfl
    have hm : zup (zup (zup (zup (zup (zup (zup (zup (zup (zup g b1 (ziar 3 (fun _ => 0))) b2 (ziar 3 (fun _ => 0))) b7 (ziar 99 (fun _ => 0))) b8 (ziar 792 (fun _ => 0))) b9 (ziar 99 (fun _ => 0))) b10 (ziar 99 (fun _ => 0))) b14 (zcar 60 (fun _ => 0))) b18 (ziar 2 (fun _ => 0))) b21 (zcar 90 (fun _ => 0))) a (.inl (.inr (2, [.int 0, .ref b1, .ref b2, .int 0, .int 0, .int 0, .int 0, .ref b7, .ref b8, .ref b9, .ref b10, .int 0, .int 0, .int 0, .ref b14, .int 0, .int 0, .int (-1), .ref b18, .int 0, .int 0, .ref b21, .int 0]))) = mdl (iA a b1 b2 b7 b8 b9 b10 b14 b18 b21) iS iF (fun _ => 0) g := by rw [hL]; exact i_mdl n_a_b1 n_a_b2 n_a_b7 n_a_b8 n_a_b9 n_a_b10 n_a_b14 n_a_b18 n_a_b21 n_b1_b2 n_b1_b7 n_b1_b8 n_b1_b9 n_b1_b10 n_b1_b14 n_b1_b18 n_b1_b21 n_b2_b7 n_b2_b8 n_b2_b9 n_b2_b10 n_b2_b14 n_b2_b18 n_b2_b21 n_b7_b8 n_b7_b9 n_b7_b10 n_b7_b14 n_b7_b18 n_b7_b21 n_b8_b9 n_b8_b10 n_b8_b14 n_b8_b18 n_b8_b21 n_b9_b10 n_b9_b14 n_b9_b18 n_b9_b21 n_b10_b14 n_b10_b18 n_b10_b21 n_b14_b18 n_b14_b21 n_b18_b21
    rw [hm]
    show Z 79 [some (.ref (iA a b1 b2 b7 b8 b9 b10 b14 b18 b21 0))] [] (mdl (iA a b1 b2 b7 b8 b9 b10 b14 b18 b21) iS iF (fun _ => 0) g) 0 0
    refine z_aload_n G dX3_init_79 rfl rfl rfl ?_
    refine mz_get G hA dX3_init_80 rfl (j := 7) fl_X3_16_2 rfl ?_
    refine z_iconst G dX3_init_83 rfl (v := 1) (by decide) ?_
    refine z_bipush G dX3_init_84 rfl (v := 21) (by decide) ?_
    refine mz_wst G hA dX3_init_86 rfl (1) rfl (by decide) ?_
    exact z_vret G dX3_init_87 rfl (by have e : upd (fun _ => 0) 1 21 = iW := (by funext x; rfl); rw [e]; exact hK (iA a b1 b2 b7 b8 b9 b10 b14 b18 b21) hA rfl (fun j hj h0 => by unfold mj at hj; simp only [List.mem_cons, List.not_mem_nil, or_false] at hj; rcases hj with rfl | rfl | rfl | rfl | rfl | rfl | rfl | rfl | rfl | rfl; exact absurd rfl h0; exact h1; exact h2; exact h7; exact h8; exact h9; exact h10; exact h14; exact h18; exact h21))
