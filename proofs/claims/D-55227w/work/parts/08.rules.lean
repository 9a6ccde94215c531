/-! ONE RULE AN INSTRUCTION, over Z: what needs no heap -/
def zref (v : Value) : Bool := match v with
  | .null => true
  | .ref _ => true
  | _ => false
theorem zref_or {v : Value} (h : zref v = true) : v = .null ∨ ∃ x, v = .ref x := by
  cases v with
  | null => exact Or.inl rfl
  | ref x => exact Or.inr ⟨x, rfl⟩
  | _ => cases h
theorem zref_rf (r : Option Nat) : zref (va_rf r) = true := by cases r <;> rfl
theorem zcat_rf (r : Option Nat) : (va_rf r).category = 1 := by cases r <;> rfl
section
variable {l : Launch} {s0 : State} {own nm : String} {cc : ByteArray} {nL : Nat} {ret : Option FieldType} {hh : List ExceptionTableEntry} {dp : Nat} {K : Res → Hp → Prop} {Z : ZT} {X : ZX} {pc q : Nat} {ls : List (Option Value)} {rest : List Value} {g : Hp} {k n : Nat}
theorem z_iconst (G : Good l s0 own nm cc nL ret hh dp K Z X) {nn : Int} {v : Int32} (hdg : decode cc pc = .ok (.iconst nn, 1)) (hq : pc + 1 = q) (hv : Int32.ofInt nn = v) (kk : Z q ls (.int v :: rest) g k n) : Z pc ls (rest) g k n := by
  subst hq
  obtain ⟨Φ, p, e, s, m, args, below, meth, c, mc, ms, Q, hX, hMQ, rfl, rfl⟩ := G
  intro H locs cells slots lsA hl0 hg hS hc hs
  exact lv_iconst hX.1 hX.2.1 hdg hv (kk H locs cells slots lsA hl0 hg hS hc hs)
theorem z_bipush (G : Good l s0 own nm cc nL ret hh dp K Z X) {nn : Int} {v : Int32} (hdg : decode cc pc = .ok (.bipush nn, 2)) (hq : pc + 2 = q) (hv : (Int8.ofInt nn).toInt32 = v) (kk : Z q ls (.int v :: rest) g k n) : Z pc ls (rest) g k n := by
  subst hq
  obtain ⟨Φ, p, e, s, m, args, below, meth, c, mc, ms, Q, hX, hMQ, rfl, rfl⟩ := G
  intro H locs cells slots lsA hl0 hg hS hc hs
  exact lv_bipush hX.1 hX.2.1 hdg hv (kk H locs cells slots lsA hl0 hg hS hc hs)
theorem z_sipush (G : Good l s0 own nm cc nL ret hh dp K Z X) {nn : Int} {v : Int32} (hdg : decode cc pc = .ok (.sipush nn, 3)) (hq : pc + 3 = q) (hv : (Int16.ofInt nn).toInt32 = v) (kk : Z q ls (.int v :: rest) g k n) : Z pc ls (rest) g k n := by
  subst hq
  obtain ⟨Φ, p, e, s, m, args, below, meth, c, mc, ms, Q, hX, hMQ, rfl, rfl⟩ := G
  intro H locs cells slots lsA hl0 hg hS hc hs
  exact lv_sipush hX.1 hX.2.1 hdg hv (kk H locs cells slots lsA hl0 hg hS hc hs)
theorem z_lconst (G : Good l s0 own nm cc nL ret hh dp K Z X) {nn : Fin 2} {v : Int64} (hdg : decode cc pc = .ok (.lconst nn, 1)) (hq : pc + 1 = q) (hv : Int64.ofNat (nn : Nat) = v) (kk : Z q ls (.long v :: rest) g k n) : Z pc ls (rest) g k n := by
  subst hq
  obtain ⟨Φ, p, e, s, m, args, below, meth, c, mc, ms, Q, hX, hMQ, rfl, rfl⟩ := G
  intro H locs cells slots lsA hl0 hg hS hc hs
  exact lv_lconst hX.1 hX.2.1 hdg hv (kk H locs cells slots lsA hl0 hg hS hc hs)
theorem z_iload_n (G : Good l s0 own nm cc nL ret hh dp K Z X) {jj : Fin 4} {i : Nat} {x : Int32} (hdg : decode cc pc = .ok (.iload_n jj, 1)) (hq : pc + 1 = q) (hi : (jj : Nat) = i) (hl : ls[i]? = some (some (.int x))) (kk : Z q ls (.int x :: rest) g k n) : Z pc ls (rest) g k n := by
  subst hq
  obtain ⟨Φ, p, e, s, m, args, below, meth, c, mc, ms, Q, hX, hMQ, rfl, rfl⟩ := G
  intro H locs cells slots lsA hl0 hg hS hc hs
  exact lv_iload_n hX.1 hX.2.1 hdg hi (hl0.2.2 _ _ hl) (kk H locs cells slots lsA hl0 hg hS hc hs)
theorem z_iload (G : Good l s0 own nm cc nL ret hh dp K Z X) {i : Nat} {x : Int32} (hdg : decode cc pc = .ok (.iload i, 2)) (hq : pc + 2 = q) (hl : ls[i]? = some (some (.int x))) (kk : Z q ls (.int x :: rest) g k n) : Z pc ls (rest) g k n := by
  subst hq
  obtain ⟨Φ, p, e, s, m, args, below, meth, c, mc, ms, Q, hX, hMQ, rfl, rfl⟩ := G
  intro H locs cells slots lsA hl0 hg hS hc hs
  exact lv_iload hX.1 hX.2.1 hdg (hl0.2.2 _ _ hl) (kk H locs cells slots lsA hl0 hg hS hc hs)
theorem z_lload_n (G : Good l s0 own nm cc nL ret hh dp K Z X) {jj : Fin 4} {i : Nat} {x : Int64} (hdg : decode cc pc = .ok (.lload_n jj, 1)) (hq : pc + 1 = q) (hi : (jj : Nat) = i) (hl : ls[i]? = some (some (.long x))) (kk : Z q ls (.long x :: rest) g k n) : Z pc ls (rest) g k n := by
  subst hq
  obtain ⟨Φ, p, e, s, m, args, below, meth, c, mc, ms, Q, hX, hMQ, rfl, rfl⟩ := G
  intro H locs cells slots lsA hl0 hg hS hc hs
  exact lv_lload_n hX.1 hX.2.1 hdg hi (hl0.2.2 _ _ hl) (kk H locs cells slots lsA hl0 hg hS hc hs)
theorem z_lload (G : Good l s0 own nm cc nL ret hh dp K Z X) {i : Nat} {x : Int64} (hdg : decode cc pc = .ok (.lload i, 2)) (hq : pc + 2 = q) (hl : ls[i]? = some (some (.long x))) (kk : Z q ls (.long x :: rest) g k n) : Z pc ls (rest) g k n := by
  subst hq
  obtain ⟨Φ, p, e, s, m, args, below, meth, c, mc, ms, Q, hX, hMQ, rfl, rfl⟩ := G
  intro H locs cells slots lsA hl0 hg hS hc hs
  exact lv_lload hX.1 hX.2.1 hdg (hl0.2.2 _ _ hl) (kk H locs cells slots lsA hl0 hg hS hc hs)
theorem z_aload_n (G : Good l s0 own nm cc nL ret hh dp K Z X) {jj : Fin 4} {i : Nat} {x : Nat} (hdg : decode cc pc = .ok (.aload_n jj, 1)) (hq : pc + 1 = q) (hi : (jj : Nat) = i) (hl : ls[i]? = some (some (.ref x))) (kk : Z q ls (.ref x :: rest) g k n) : Z pc ls (rest) g k n := by
  subst hq
  obtain ⟨Φ, p, e, s, m, args, below, meth, c, mc, ms, Q, hX, hMQ, rfl, rfl⟩ := G
  intro H locs cells slots lsA hl0 hg hS hc hs
  exact lv_aload_n hX.1 hX.2.1 hdg hi (hl0.2.2 _ _ hl) (kk H locs cells slots lsA hl0 hg hS hc hs)
theorem z_aload (G : Good l s0 own nm cc nL ret hh dp K Z X) {i : Nat} {x : Nat} (hdg : decode cc pc = .ok (.aload i, 2)) (hq : pc + 2 = q) (hl : ls[i]? = some (some (.ref x))) (kk : Z q ls (.ref x :: rest) g k n) : Z pc ls (rest) g k n := by
  subst hq
  obtain ⟨Φ, p, e, s, m, args, below, meth, c, mc, ms, Q, hX, hMQ, rfl, rfl⟩ := G
  intro H locs cells slots lsA hl0 hg hS hc hs
  exact lv_aload hX.1 hX.2.1 hdg (hl0.2.2 _ _ hl) (kk H locs cells slots lsA hl0 hg hS hc hs)
theorem z_aload_nN (G : Good l s0 own nm cc nL ret hh dp K Z X) {jj : Fin 4} {i : Nat} (hdg : decode cc pc = .ok (.aload_n jj, 1)) (hq : pc + 1 = q) (hi : (jj : Nat) = i) (hl : ls[i]? = some (some (.null))) (kk : Z q ls (.null :: rest) g k n) : Z pc ls (rest) g k n := by
  subst hq
  obtain ⟨Φ, p, e, s, m, args, below, meth, c, mc, ms, Q, hX, hMQ, rfl, rfl⟩ := G
  intro H locs cells slots lsA hl0 hg hS hc hs
  exact lv_aload_nN hX.1 hX.2.1 hdg hi (hl0.2.2 _ _ hl) (kk H locs cells slots lsA hl0 hg hS hc hs)
theorem z_aloadN (G : Good l s0 own nm cc nL ret hh dp K Z X) {i : Nat} (hdg : decode cc pc = .ok (.aload i, 2)) (hq : pc + 2 = q) (hl : ls[i]? = some (some (.null))) (kk : Z q ls (.null :: rest) g k n) : Z pc ls (rest) g k n := by
  subst hq
  obtain ⟨Φ, p, e, s, m, args, below, meth, c, mc, ms, Q, hX, hMQ, rfl, rfl⟩ := G
  intro H locs cells slots lsA hl0 hg hS hc hs
  exact lv_aloadN hX.1 hX.2.1 hdg (hl0.2.2 _ _ hl) (kk H locs cells slots lsA hl0 hg hS hc hs)
theorem z_fload_n (G : Good l s0 own nm cc nL ret hh dp K Z X) {jj : Fin 4} {i : Nat} {x : UInt32} (hdg : decode cc pc = .ok (.fload_n jj, 1)) (hq : pc + 1 = q) (hi : (jj : Nat) = i) (hl : ls[i]? = some (some (.float x))) (kk : Z q ls (.float x :: rest) g k n) : Z pc ls (rest) g k n := by
  subst hq
  obtain ⟨Φ, p, e, s, m, args, below, meth, c, mc, ms, Q, hX, hMQ, rfl, rfl⟩ := G
  intro H locs cells slots lsA hl0 hg hS hc hs
  exact lv_fload_n hX.1 hX.2.1 hdg hi (hl0.2.2 _ _ hl) (kk H locs cells slots lsA hl0 hg hS hc hs)
theorem z_fload (G : Good l s0 own nm cc nL ret hh dp K Z X) {i : Nat} {x : UInt32} (hdg : decode cc pc = .ok (.fload i, 2)) (hq : pc + 2 = q) (hl : ls[i]? = some (some (.float x))) (kk : Z q ls (.float x :: rest) g k n) : Z pc ls (rest) g k n := by
  subst hq
  obtain ⟨Φ, p, e, s, m, args, below, meth, c, mc, ms, Q, hX, hMQ, rfl, rfl⟩ := G
  intro H locs cells slots lsA hl0 hg hS hc hs
  exact lv_fload hX.1 hX.2.1 hdg (hl0.2.2 _ _ hl) (kk H locs cells slots lsA hl0 hg hS hc hs)
theorem z_dload_n (G : Good l s0 own nm cc nL ret hh dp K Z X) {jj : Fin 4} {i : Nat} {x : UInt64} (hdg : decode cc pc = .ok (.dload_n jj, 1)) (hq : pc + 1 = q) (hi : (jj : Nat) = i) (hl : ls[i]? = some (some (.double x))) (kk : Z q ls (.double x :: rest) g k n) : Z pc ls (rest) g k n := by
  subst hq
  obtain ⟨Φ, p, e, s, m, args, below, meth, c, mc, ms, Q, hX, hMQ, rfl, rfl⟩ := G
  intro H locs cells slots lsA hl0 hg hS hc hs
  exact lv_dload_n hX.1 hX.2.1 hdg hi (hl0.2.2 _ _ hl) (kk H locs cells slots lsA hl0 hg hS hc hs)
theorem z_dload (G : Good l s0 own nm cc nL ret hh dp K Z X) {i : Nat} {x : UInt64} (hdg : decode cc pc = .ok (.dload i, 2)) (hq : pc + 2 = q) (hl : ls[i]? = some (some (.double x))) (kk : Z q ls (.double x :: rest) g k n) : Z pc ls (rest) g k n := by
  subst hq
  obtain ⟨Φ, p, e, s, m, args, below, meth, c, mc, ms, Q, hX, hMQ, rfl, rfl⟩ := G
  intro H locs cells slots lsA hl0 hg hS hc hs
  exact lv_dload hX.1 hX.2.1 hdg (hl0.2.2 _ _ hl) (kk H locs cells slots lsA hl0 hg hS hc hs)
theorem z_iadd (G : Good l s0 own nm cc nL ret hh dp K Z X) {x y : Int32} (hdg : decode cc pc = .ok (.iadd, 1)) (hq : pc + 1 = q) (kk : Z q ls (.int (x + y) :: rest) g k n) : Z pc ls (.int y :: .int x :: rest) g k n := by
  subst hq
  obtain ⟨Φ, p, e, s, m, args, below, meth, c, mc, ms, Q, hX, hMQ, rfl, rfl⟩ := G
  intro H locs cells slots lsA hl0 hg hS hc hs
  exact lv_iadd hX.1 hX.2.1 hdg (kk H locs cells slots lsA hl0 hg hS hc hs)
theorem z_isub (G : Good l s0 own nm cc nL ret hh dp K Z X) {x y : Int32} (hdg : decode cc pc = .ok (.isub, 1)) (hq : pc + 1 = q) (kk : Z q ls (.int (x - y) :: rest) g k n) : Z pc ls (.int y :: .int x :: rest) g k n := by
  subst hq
  obtain ⟨Φ, p, e, s, m, args, below, meth, c, mc, ms, Q, hX, hMQ, rfl, rfl⟩ := G
  intro H locs cells slots lsA hl0 hg hS hc hs
  exact lv_isub hX.1 hX.2.1 hdg (kk H locs cells slots lsA hl0 hg hS hc hs)
theorem z_imul (G : Good l s0 own nm cc nL ret hh dp K Z X) {x y : Int32} (hdg : decode cc pc = .ok (.imul, 1)) (hq : pc + 1 = q) (kk : Z q ls (.int (x * y) :: rest) g k n) : Z pc ls (.int y :: .int x :: rest) g k n := by
  subst hq
  obtain ⟨Φ, p, e, s, m, args, below, meth, c, mc, ms, Q, hX, hMQ, rfl, rfl⟩ := G
  intro H locs cells slots lsA hl0 hg hS hc hs
  exact lv_imul hX.1 hX.2.1 hdg (kk H locs cells slots lsA hl0 hg hS hc hs)
theorem z_iand (G : Good l s0 own nm cc nL ret hh dp K Z X) {x y : Int32} (hdg : decode cc pc = .ok (.iand, 1)) (hq : pc + 1 = q) (kk : Z q ls (.int (x &&& y) :: rest) g k n) : Z pc ls (.int y :: .int x :: rest) g k n := by
  subst hq
  obtain ⟨Φ, p, e, s, m, args, below, meth, c, mc, ms, Q, hX, hMQ, rfl, rfl⟩ := G
  intro H locs cells slots lsA hl0 hg hS hc hs
  exact lv_iand hX.1 hX.2.1 hdg (kk H locs cells slots lsA hl0 hg hS hc hs)
theorem z_ior (G : Good l s0 own nm cc nL ret hh dp K Z X) {x y : Int32} (hdg : decode cc pc = .ok (.ior, 1)) (hq : pc + 1 = q) (kk : Z q ls (.int (x ||| y) :: rest) g k n) : Z pc ls (.int y :: .int x :: rest) g k n := by
  subst hq
  obtain ⟨Φ, p, e, s, m, args, below, meth, c, mc, ms, Q, hX, hMQ, rfl, rfl⟩ := G
  intro H locs cells slots lsA hl0 hg hS hc hs
  exact lv_ior hX.1 hX.2.1 hdg (kk H locs cells slots lsA hl0 hg hS hc hs)
theorem z_ixor (G : Good l s0 own nm cc nL ret hh dp K Z X) {x y : Int32} (hdg : decode cc pc = .ok (.ixor, 1)) (hq : pc + 1 = q) (kk : Z q ls (.int (x ^^^ y) :: rest) g k n) : Z pc ls (.int y :: .int x :: rest) g k n := by
  subst hq
  obtain ⟨Φ, p, e, s, m, args, below, meth, c, mc, ms, Q, hX, hMQ, rfl, rfl⟩ := G
  intro H locs cells slots lsA hl0 hg hS hc hs
  exact lv_ixor hX.1 hX.2.1 hdg (kk H locs cells slots lsA hl0 hg hS hc hs)
theorem z_idiv (G : Good l s0 own nm cc nL ret hh dp K Z X) {x y : Int32} (hdg : decode cc pc = .ok (.idiv, 1)) (hq : pc + 1 = q) (hne : ¬ y = 0) (kk : Z q ls (.int (x / y) :: rest) g k n) : Z pc ls (.int y :: .int x :: rest) g k n := by
  subst hq
  obtain ⟨Φ, p, e, s, m, args, below, meth, c, mc, ms, Q, hX, hMQ, rfl, rfl⟩ := G
  intro H locs cells slots lsA hl0 hg hS hc hs
  exact lv_idiv hX.1 hX.2.1 hdg hne (kk H locs cells slots lsA hl0 hg hS hc hs)
theorem z_irem (G : Good l s0 own nm cc nL ret hh dp K Z X) {x y : Int32} (hdg : decode cc pc = .ok (.irem, 1)) (hq : pc + 1 = q) (hne : ¬ y = 0) (kk : Z q ls (.int (x - x / y * y) :: rest) g k n) : Z pc ls (.int y :: .int x :: rest) g k n := by
  subst hq
  obtain ⟨Φ, p, e, s, m, args, below, meth, c, mc, ms, Q, hX, hMQ, rfl, rfl⟩ := G
  intro H locs cells slots lsA hl0 hg hS hc hs
  exact lv_irem hX.1 hX.2.1 hdg hne (kk H locs cells slots lsA hl0 hg hS hc hs)
theorem z_ineg (G : Good l s0 own nm cc nL ret hh dp K Z X) {x : Int32} (hdg : decode cc pc = .ok (.ineg, 1)) (hq : pc + 1 = q) (kk : Z q ls (.int (-x) :: rest) g k n) : Z pc ls (.int x :: rest) g k n := by
  subst hq
  obtain ⟨Φ, p, e, s, m, args, below, meth, c, mc, ms, Q, hX, hMQ, rfl, rfl⟩ := G
  intro H locs cells slots lsA hl0 hg hS hc hs
  exact lv_ineg hX.1 hX.2.1 hdg (kk H locs cells slots lsA hl0 hg hS hc hs)
theorem z_ladd (G : Good l s0 own nm cc nL ret hh dp K Z X) {x y : Int64} (hdg : decode cc pc = .ok (.ladd, 1)) (hq : pc + 1 = q) (kk : Z q ls (.long (x + y) :: rest) g k n) : Z pc ls (.long y :: .long x :: rest) g k n := by
  subst hq
  obtain ⟨Φ, p, e, s, m, args, below, meth, c, mc, ms, Q, hX, hMQ, rfl, rfl⟩ := G
  intro H locs cells slots lsA hl0 hg hS hc hs
  exact lv_ladd hX.1 hX.2.1 hdg (kk H locs cells slots lsA hl0 hg hS hc hs)
theorem z_lsub (G : Good l s0 own nm cc nL ret hh dp K Z X) {x y : Int64} (hdg : decode cc pc = .ok (.lsub, 1)) (hq : pc + 1 = q) (kk : Z q ls (.long (x - y) :: rest) g k n) : Z pc ls (.long y :: .long x :: rest) g k n := by
  subst hq
  obtain ⟨Φ, p, e, s, m, args, below, meth, c, mc, ms, Q, hX, hMQ, rfl, rfl⟩ := G
  intro H locs cells slots lsA hl0 hg hS hc hs
  exact lv_lsub hX.1 hX.2.1 hdg (kk H locs cells slots lsA hl0 hg hS hc hs)
theorem z_lmul (G : Good l s0 own nm cc nL ret hh dp K Z X) {x y : Int64} (hdg : decode cc pc = .ok (.lmul, 1)) (hq : pc + 1 = q) (kk : Z q ls (.long (x * y) :: rest) g k n) : Z pc ls (.long y :: .long x :: rest) g k n := by
  subst hq
  obtain ⟨Φ, p, e, s, m, args, below, meth, c, mc, ms, Q, hX, hMQ, rfl, rfl⟩ := G
  intro H locs cells slots lsA hl0 hg hS hc hs
  exact lv_lmul hX.1 hX.2.1 hdg (kk H locs cells slots lsA hl0 hg hS hc hs)
theorem z_land (G : Good l s0 own nm cc nL ret hh dp K Z X) {x y : Int64} (hdg : decode cc pc = .ok (.land, 1)) (hq : pc + 1 = q) (kk : Z q ls (.long (x &&& y) :: rest) g k n) : Z pc ls (.long y :: .long x :: rest) g k n := by
  subst hq
  obtain ⟨Φ, p, e, s, m, args, below, meth, c, mc, ms, Q, hX, hMQ, rfl, rfl⟩ := G
  intro H locs cells slots lsA hl0 hg hS hc hs
  exact lv_land hX.1 hX.2.1 hdg (kk H locs cells slots lsA hl0 hg hS hc hs)
theorem z_lor (G : Good l s0 own nm cc nL ret hh dp K Z X) {x y : Int64} (hdg : decode cc pc = .ok (.lor, 1)) (hq : pc + 1 = q) (kk : Z q ls (.long (x ||| y) :: rest) g k n) : Z pc ls (.long y :: .long x :: rest) g k n := by
  subst hq
  obtain ⟨Φ, p, e, s, m, args, below, meth, c, mc, ms, Q, hX, hMQ, rfl, rfl⟩ := G
  intro H locs cells slots lsA hl0 hg hS hc hs
  exact lv_lor hX.1 hX.2.1 hdg (kk H locs cells slots lsA hl0 hg hS hc hs)
theorem z_lxor (G : Good l s0 own nm cc nL ret hh dp K Z X) {x y : Int64} (hdg : decode cc pc = .ok (.lxor, 1)) (hq : pc + 1 = q) (kk : Z q ls (.long (x ^^^ y) :: rest) g k n) : Z pc ls (.long y :: .long x :: rest) g k n := by
  subst hq
  obtain ⟨Φ, p, e, s, m, args, below, meth, c, mc, ms, Q, hX, hMQ, rfl, rfl⟩ := G
  intro H locs cells slots lsA hl0 hg hS hc hs
  exact lv_lxor hX.1 hX.2.1 hdg (kk H locs cells slots lsA hl0 hg hS hc hs)
theorem z_lneg (G : Good l s0 own nm cc nL ret hh dp K Z X) {x : Int64} (hdg : decode cc pc = .ok (.lneg, 1)) (hq : pc + 1 = q) (kk : Z q ls (.long (-x) :: rest) g k n) : Z pc ls (.long x :: rest) g k n := by
  subst hq
  obtain ⟨Φ, p, e, s, m, args, below, meth, c, mc, ms, Q, hX, hMQ, rfl, rfl⟩ := G
  intro H locs cells slots lsA hl0 hg hS hc hs
  exact lv_lneg hX.1 hX.2.1 hdg (kk H locs cells slots lsA hl0 hg hS hc hs)
theorem z_ishl (G : Good l s0 own nm cc nL ret hh dp K Z X) {x y : Int32} (hdg : decode cc pc = .ok (.ishl, 1)) (hq : pc + 1 = q) (kk : Z q ls (.int (x <<< (y &&& 31)) :: rest) g k n) : Z pc ls (.int y :: .int x :: rest) g k n := by
  subst hq
  obtain ⟨Φ, p, e, s, m, args, below, meth, c, mc, ms, Q, hX, hMQ, rfl, rfl⟩ := G
  intro H locs cells slots lsA hl0 hg hS hc hs
  exact lv_ishl hX.1 hX.2.1 hdg (kk H locs cells slots lsA hl0 hg hS hc hs)
theorem z_ishr (G : Good l s0 own nm cc nL ret hh dp K Z X) {x y : Int32} (hdg : decode cc pc = .ok (.ishr, 1)) (hq : pc + 1 = q) (kk : Z q ls (.int (x >>> (y &&& 31)) :: rest) g k n) : Z pc ls (.int y :: .int x :: rest) g k n := by
  subst hq
  obtain ⟨Φ, p, e, s, m, args, below, meth, c, mc, ms, Q, hX, hMQ, rfl, rfl⟩ := G
  intro H locs cells slots lsA hl0 hg hS hc hs
  exact lv_ishr hX.1 hX.2.1 hdg (kk H locs cells slots lsA hl0 hg hS hc hs)
theorem z_i2l (G : Good l s0 own nm cc nL ret hh dp K Z X) {x : Int32} {v : Int64} (hdg : decode cc pc = .ok (.i2l, 1)) (hq : pc + 1 = q) (hv : x.toInt64 = v) (kk : Z q ls (.long v :: rest) g k n) : Z pc ls (.int x :: rest) g k n := by
  subst hq
  obtain ⟨Φ, p, e, s, m, args, below, meth, c, mc, ms, Q, hX, hMQ, rfl, rfl⟩ := G
  intro H locs cells slots lsA hl0 hg hS hc hs
  exact lv_i2l hX.1 hX.2.1 hdg hv (kk H locs cells slots lsA hl0 hg hS hc hs)
theorem z_l2i (G : Good l s0 own nm cc nL ret hh dp K Z X) {x : Int64} {v : Int32} (hdg : decode cc pc = .ok (.l2i, 1)) (hq : pc + 1 = q) (hv : x.toInt32 = v) (kk : Z q ls (.int v :: rest) g k n) : Z pc ls (.long x :: rest) g k n := by
  subst hq
  obtain ⟨Φ, p, e, s, m, args, below, meth, c, mc, ms, Q, hX, hMQ, rfl, rfl⟩ := G
  intro H locs cells slots lsA hl0 hg hS hc hs
  exact lv_l2i hX.1 hX.2.1 hdg hv (kk H locs cells slots lsA hl0 hg hS hc hs)
theorem z_i2b (G : Good l s0 own nm cc nL ret hh dp K Z X) {x : Int32} {v : Int32} (hdg : decode cc pc = .ok (.i2b, 1)) (hq : pc + 1 = q) (hv : x.toInt8.toInt32 = v) (kk : Z q ls (.int v :: rest) g k n) : Z pc ls (.int x :: rest) g k n := by
  subst hq
  obtain ⟨Φ, p, e, s, m, args, below, meth, c, mc, ms, Q, hX, hMQ, rfl, rfl⟩ := G
  intro H locs cells slots lsA hl0 hg hS hc hs
  exact lv_i2b hX.1 hX.2.1 hdg hv (kk H locs cells slots lsA hl0 hg hS hc hs)
theorem z_i2s (G : Good l s0 own nm cc nL ret hh dp K Z X) {x : Int32} {v : Int32} (hdg : decode cc pc = .ok (.i2s, 1)) (hq : pc + 1 = q) (hv : x.toInt16.toInt32 = v) (kk : Z q ls (.int v :: rest) g k n) : Z pc ls (.int x :: rest) g k n := by
  subst hq
  obtain ⟨Φ, p, e, s, m, args, below, meth, c, mc, ms, Q, hX, hMQ, rfl, rfl⟩ := G
  intro H locs cells slots lsA hl0 hg hS hc hs
  exact lv_i2s hX.1 hX.2.1 hdg hv (kk H locs cells slots lsA hl0 hg hS hc hs)
theorem z_i2c (G : Good l s0 own nm cc nL ret hh dp K Z X) {x : Int32} {v : Int32} (hdg : decode cc pc = .ok (.i2c, 1)) (hq : pc + 1 = q) (hv : (x.toUInt32 % 65536).toInt32 = v) (kk : Z q ls (.int v :: rest) g k n) : Z pc ls (.int x :: rest) g k n := by
  subst hq
  obtain ⟨Φ, p, e, s, m, args, below, meth, c, mc, ms, Q, hX, hMQ, rfl, rfl⟩ := G
  intro H locs cells slots lsA hl0 hg hS hc hs
  exact lv_i2c hX.1 hX.2.1 hdg hv (kk H locs cells slots lsA hl0 hg hS hc hs)
theorem z_iushr (G : Good l s0 own nm cc nL ret hh dp K Z X) {x y v : Int32} (hdg : decode cc pc = .ok (.iushr, 1)) (hq : pc + 1 = q) (hv : (x.toUInt32 >>> (y.toUInt32 &&& Int32.toUInt32 31)).toInt32 = v) (kk : Z q ls (.int v :: rest) g k n) : Z pc ls (.int y :: .int x :: rest) g k n := by
  subst hq
  obtain ⟨Φ, p, e, s, m, args, below, meth, c, mc, ms, Q, hX, hMQ, rfl, rfl⟩ := G
  intro H locs cells slots lsA hl0 hg hS hc hs
  exact lv_iushr hX.1 hX.2.1 hdg hv (kk H locs cells slots lsA hl0 hg hS hc hs)
theorem z_lushr (G : Good l s0 own nm cc nL ret hh dp K Z X) {x v : Int64} {y : Int32} (hdg : decode cc pc = .ok (.lushr, 1)) (hq : pc + 1 = q) (hv : (x.toUInt64 >>> (y.toInt64.toUInt64 &&& Int64.toUInt64 63)).toInt64 = v) (kk : Z q ls (.long v :: rest) g k n) : Z pc ls (.int y :: .long x :: rest) g k n := by
  subst hq
  obtain ⟨Φ, p, e, s, m, args, below, meth, c, mc, ms, Q, hX, hMQ, rfl, rfl⟩ := G
  intro H locs cells slots lsA hl0 hg hS hc hs
  exact lv_lushr hX.1 hX.2.1 hdg hv (kk H locs cells slots lsA hl0 hg hS hc hs)
theorem z_lshl (G : Good l s0 own nm cc nL ret hh dp K Z X) {x v : Int64} {y : Int32} (hdg : decode cc pc = .ok (.lshl, 1)) (hq : pc + 1 = q) (hv : x <<< (y.toInt64 &&& 63) = v) (kk : Z q ls (.long v :: rest) g k n) : Z pc ls (.int y :: .long x :: rest) g k n := by
  subst hq
  obtain ⟨Φ, p, e, s, m, args, below, meth, c, mc, ms, Q, hX, hMQ, rfl, rfl⟩ := G
  intro H locs cells slots lsA hl0 hg hS hc hs
  exact lv_lshl hX.1 hX.2.1 hdg hv (kk H locs cells slots lsA hl0 hg hS hc hs)
theorem z_lshr (G : Good l s0 own nm cc nL ret hh dp K Z X) {x v : Int64} {y : Int32} (hdg : decode cc pc = .ok (.lshr, 1)) (hq : pc + 1 = q) (hv : x >>> (y.toInt64 &&& 63) = v) (kk : Z q ls (.long v :: rest) g k n) : Z pc ls (.int y :: .long x :: rest) g k n := by
  subst hq
  obtain ⟨Φ, p, e, s, m, args, below, meth, c, mc, ms, Q, hX, hMQ, rfl, rfl⟩ := G
  intro H locs cells slots lsA hl0 hg hS hc hs
  exact lv_lshr hX.1 hX.2.1 hdg hv (kk H locs cells slots lsA hl0 hg hS hc hs)
theorem z_dup (G : Good l s0 own nm cc nL ret hh dp K Z X) {va : Value} (hdg : decode cc pc = .ok (.dup, 1)) (hq : pc + 1 = q) (hva : va.category = 1) (kk : Z q ls (va :: va :: rest) g k n) : Z pc ls (va :: rest) g k n := by
  subst hq
  obtain ⟨Φ, p, e, s, m, args, below, meth, c, mc, ms, Q, hX, hMQ, rfl, rfl⟩ := G
  intro H locs cells slots lsA hl0 hg hS hc hs
  exact lv_dup hX.1 hX.2.1 hdg hva (kk H locs cells slots lsA hl0 hg hS hc hs)
theorem z_pop (G : Good l s0 own nm cc nL ret hh dp K Z X) {va : Value} (hdg : decode cc pc = .ok (.pop, 1)) (hq : pc + 1 = q) (hva : va.category = 1) (kk : Z q ls (rest) g k n) : Z pc ls (va :: rest) g k n := by
  subst hq
  obtain ⟨Φ, p, e, s, m, args, below, meth, c, mc, ms, Q, hX, hMQ, rfl, rfl⟩ := G
  intro H locs cells slots lsA hl0 hg hS hc hs
  exact lv_pop hX.1 hX.2.1 hdg hva (kk H locs cells slots lsA hl0 hg hS hc hs)
theorem z_dup_x1 (G : Good l s0 own nm cc nL ret hh dp K Z X) {va vb : Value} (hdg : decode cc pc = .ok (.dup_x1, 1)) (hq : pc + 1 = q) (hva : va.category = 1) (hvb : vb.category = 1) (kk : Z q ls (va :: vb :: va :: rest) g k n) : Z pc ls (va :: vb :: rest) g k n := by
  subst hq
  obtain ⟨Φ, p, e, s, m, args, below, meth, c, mc, ms, Q, hX, hMQ, rfl, rfl⟩ := G
  intro H locs cells slots lsA hl0 hg hS hc hs
  exact lv_dup_x1 hX.1 hX.2.1 hdg hva hvb (kk H locs cells slots lsA hl0 hg hS hc hs)
theorem z_dup_x2 (G : Good l s0 own nm cc nL ret hh dp K Z X) {va vb vd : Value} (hdg : decode cc pc = .ok (.dup_x2, 1)) (hq : pc + 1 = q) (hva : va.category = 1) (hvb : vb.category = 1) (hvd : vd.category = 1) (kk : Z q ls (va :: vb :: vd :: va :: rest) g k n) : Z pc ls (va :: vb :: vd :: rest) g k n := by
  subst hq
  obtain ⟨Φ, p, e, s, m, args, below, meth, c, mc, ms, Q, hX, hMQ, rfl, rfl⟩ := G
  intro H locs cells slots lsA hl0 hg hS hc hs
  exact lv_dup_x2 hX.1 hX.2.1 hdg hva hvb hvd (kk H locs cells slots lsA hl0 hg hS hc hs)
theorem z_dup2_11 (G : Good l s0 own nm cc nL ret hh dp K Z X) {va vb : Value} (hdg : decode cc pc = .ok (.dup2, 1)) (hq : pc + 1 = q) (hva : va.category = 1) (hvb : vb.category = 1) (kk : Z q ls (va :: vb :: va :: vb :: rest) g k n) : Z pc ls (va :: vb :: rest) g k n := by
  subst hq
  obtain ⟨Φ, p, e, s, m, args, below, meth, c, mc, ms, Q, hX, hMQ, rfl, rfl⟩ := G
  intro H locs cells slots lsA hl0 hg hS hc hs
  exact lv_dup2_11 hX.1 hX.2.1 hdg hva hvb (kk H locs cells slots lsA hl0 hg hS hc hs)
theorem z_dup2_2 (G : Good l s0 own nm cc nL ret hh dp K Z X) {va : Value} (hdg : decode cc pc = .ok (.dup2, 1)) (hq : pc + 1 = q) (hva : va.category = 2) (kk : Z q ls (va :: va :: rest) g k n) : Z pc ls (va :: rest) g k n := by
  subst hq
  obtain ⟨Φ, p, e, s, m, args, below, meth, c, mc, ms, Q, hX, hMQ, rfl, rfl⟩ := G
  intro H locs cells slots lsA hl0 hg hS hc hs
  exact lv_dup2_2 hX.1 hX.2.1 hdg hva (kk H locs cells slots lsA hl0 hg hS hc hs)
theorem z_pop2_2 (G : Good l s0 own nm cc nL ret hh dp K Z X) {va : Value} (hdg : decode cc pc = .ok (.pop2, 1)) (hq : pc + 1 = q) (hva : va.category = 2) (kk : Z q ls (rest) g k n) : Z pc ls (va :: rest) g k n := by
  subst hq
  obtain ⟨Φ, p, e, s, m, args, below, meth, c, mc, ms, Q, hX, hMQ, rfl, rfl⟩ := G
  intro H locs cells slots lsA hl0 hg hS hc hs
  exact lv_pop2_2 hX.1 hX.2.1 hdg hva (kk H locs cells slots lsA hl0 hg hS hc hs)
theorem z_pop2_11 (G : Good l s0 own nm cc nL ret hh dp K Z X) {va vb : Value} (hdg : decode cc pc = .ok (.pop2, 1)) (hq : pc + 1 = q) (hva : va.category = 1) (hvb : vb.category = 1) (kk : Z q ls (rest) g k n) : Z pc ls (va :: vb :: rest) g k n := by
  subst hq
  obtain ⟨Φ, p, e, s, m, args, below, meth, c, mc, ms, Q, hX, hMQ, rfl, rfl⟩ := G
  intro H locs cells slots lsA hl0 hg hS hc hs
  exact lv_pop2_11 hX.1 hX.2.1 hdg hva hvb (kk H locs cells slots lsA hl0 hg hS hc hs)
theorem z_if_eq (G : Good l s0 own nm cc nL ret hh dp K Z X) {x : Int32} {off : Int} {tgt : Nat} (hdg : decode cc pc = .ok (.ifCond .eq off, 3)) (hq : pc + 3 = q) (ht : (pc : Int) + off = (tgt : Int)) (kt : x = 0 → Z tgt ls rest g k n) (kf : ¬ x = 0 → Z q ls rest g k n) : Z pc ls (.int x :: rest) g k n := by
  subst hq
  obtain ⟨Φ, p, e, s, m, args, below, meth, c, mc, ms, Q, hX, hMQ, rfl, rfl⟩ := G
  intro H locs cells slots lsA hl0 hg hS hc hs
  exact lv_if_eq hX.1 hX.2.1 hdg ht (fun w => kt w H locs cells slots lsA hl0 hg hS hc hs) (fun w => kf w H locs cells slots lsA hl0 hg hS hc hs)
theorem z_icmp_eq (G : Good l s0 own nm cc nL ret hh dp K Z X) {x y : Int32} {off : Int} {tgt : Nat} (hdg : decode cc pc = .ok (.if_icmp .eq off, 3)) (hq : pc + 3 = q) (ht : (pc : Int) + off = (tgt : Int)) (kt : x = y → Z tgt ls rest g k n) (kf : ¬ x = y → Z q ls rest g k n) : Z pc ls (.int y :: .int x :: rest) g k n := by
  subst hq
  obtain ⟨Φ, p, e, s, m, args, below, meth, c, mc, ms, Q, hX, hMQ, rfl, rfl⟩ := G
  intro H locs cells slots lsA hl0 hg hS hc hs
  exact lv_icmp_eq hX.1 hX.2.1 hdg ht (fun w => kt w H locs cells slots lsA hl0 hg hS hc hs) (fun w => kf w H locs cells slots lsA hl0 hg hS hc hs)
theorem z_if_ne (G : Good l s0 own nm cc nL ret hh dp K Z X) {x : Int32} {off : Int} {tgt : Nat} (hdg : decode cc pc = .ok (.ifCond .ne off, 3)) (hq : pc + 3 = q) (ht : (pc : Int) + off = (tgt : Int)) (kt : ¬ x = 0 → Z tgt ls rest g k n) (kf : x = 0 → Z q ls rest g k n) : Z pc ls (.int x :: rest) g k n := by
  subst hq
  obtain ⟨Φ, p, e, s, m, args, below, meth, c, mc, ms, Q, hX, hMQ, rfl, rfl⟩ := G
  intro H locs cells slots lsA hl0 hg hS hc hs
  exact lv_if_ne hX.1 hX.2.1 hdg ht (fun w => kt w H locs cells slots lsA hl0 hg hS hc hs) (fun w => kf w H locs cells slots lsA hl0 hg hS hc hs)
theorem z_icmp_ne (G : Good l s0 own nm cc nL ret hh dp K Z X) {x y : Int32} {off : Int} {tgt : Nat} (hdg : decode cc pc = .ok (.if_icmp .ne off, 3)) (hq : pc + 3 = q) (ht : (pc : Int) + off = (tgt : Int)) (kt : ¬ x = y → Z tgt ls rest g k n) (kf : x = y → Z q ls rest g k n) : Z pc ls (.int y :: .int x :: rest) g k n := by
  subst hq
  obtain ⟨Φ, p, e, s, m, args, below, meth, c, mc, ms, Q, hX, hMQ, rfl, rfl⟩ := G
  intro H locs cells slots lsA hl0 hg hS hc hs
  exact lv_icmp_ne hX.1 hX.2.1 hdg ht (fun w => kt w H locs cells slots lsA hl0 hg hS hc hs) (fun w => kf w H locs cells slots lsA hl0 hg hS hc hs)
theorem z_if_lt (G : Good l s0 own nm cc nL ret hh dp K Z X) {x : Int32} {off : Int} {tgt : Nat} (hdg : decode cc pc = .ok (.ifCond .lt off, 3)) (hq : pc + 3 = q) (ht : (pc : Int) + off = (tgt : Int)) (kt : x < 0 → Z tgt ls rest g k n) (kf : ¬ x < 0 → Z q ls rest g k n) : Z pc ls (.int x :: rest) g k n := by
  subst hq
  obtain ⟨Φ, p, e, s, m, args, below, meth, c, mc, ms, Q, hX, hMQ, rfl, rfl⟩ := G
  intro H locs cells slots lsA hl0 hg hS hc hs
  exact lv_if_lt hX.1 hX.2.1 hdg ht (fun w => kt w H locs cells slots lsA hl0 hg hS hc hs) (fun w => kf w H locs cells slots lsA hl0 hg hS hc hs)
theorem z_icmp_lt (G : Good l s0 own nm cc nL ret hh dp K Z X) {x y : Int32} {off : Int} {tgt : Nat} (hdg : decode cc pc = .ok (.if_icmp .lt off, 3)) (hq : pc + 3 = q) (ht : (pc : Int) + off = (tgt : Int)) (kt : x < y → Z tgt ls rest g k n) (kf : ¬ x < y → Z q ls rest g k n) : Z pc ls (.int y :: .int x :: rest) g k n := by
  subst hq
  obtain ⟨Φ, p, e, s, m, args, below, meth, c, mc, ms, Q, hX, hMQ, rfl, rfl⟩ := G
  intro H locs cells slots lsA hl0 hg hS hc hs
  exact lv_icmp_lt hX.1 hX.2.1 hdg ht (fun w => kt w H locs cells slots lsA hl0 hg hS hc hs) (fun w => kf w H locs cells slots lsA hl0 hg hS hc hs)
theorem z_if_ge (G : Good l s0 own nm cc nL ret hh dp K Z X) {x : Int32} {off : Int} {tgt : Nat} (hdg : decode cc pc = .ok (.ifCond .ge off, 3)) (hq : pc + 3 = q) (ht : (pc : Int) + off = (tgt : Int)) (kt : 0 ≤ x → Z tgt ls rest g k n) (kf : ¬ 0 ≤ x → Z q ls rest g k n) : Z pc ls (.int x :: rest) g k n := by
  subst hq
  obtain ⟨Φ, p, e, s, m, args, below, meth, c, mc, ms, Q, hX, hMQ, rfl, rfl⟩ := G
  intro H locs cells slots lsA hl0 hg hS hc hs
  exact lv_if_ge hX.1 hX.2.1 hdg ht (fun w => kt w H locs cells slots lsA hl0 hg hS hc hs) (fun w => kf w H locs cells slots lsA hl0 hg hS hc hs)
theorem z_icmp_ge (G : Good l s0 own nm cc nL ret hh dp K Z X) {x y : Int32} {off : Int} {tgt : Nat} (hdg : decode cc pc = .ok (.if_icmp .ge off, 3)) (hq : pc + 3 = q) (ht : (pc : Int) + off = (tgt : Int)) (kt : y ≤ x → Z tgt ls rest g k n) (kf : ¬ y ≤ x → Z q ls rest g k n) : Z pc ls (.int y :: .int x :: rest) g k n := by
  subst hq
  obtain ⟨Φ, p, e, s, m, args, below, meth, c, mc, ms, Q, hX, hMQ, rfl, rfl⟩ := G
  intro H locs cells slots lsA hl0 hg hS hc hs
  exact lv_icmp_ge hX.1 hX.2.1 hdg ht (fun w => kt w H locs cells slots lsA hl0 hg hS hc hs) (fun w => kf w H locs cells slots lsA hl0 hg hS hc hs)
theorem z_if_gt (G : Good l s0 own nm cc nL ret hh dp K Z X) {x : Int32} {off : Int} {tgt : Nat} (hdg : decode cc pc = .ok (.ifCond .gt off, 3)) (hq : pc + 3 = q) (ht : (pc : Int) + off = (tgt : Int)) (kt : 0 < x → Z tgt ls rest g k n) (kf : ¬ 0 < x → Z q ls rest g k n) : Z pc ls (.int x :: rest) g k n := by
  subst hq
  obtain ⟨Φ, p, e, s, m, args, below, meth, c, mc, ms, Q, hX, hMQ, rfl, rfl⟩ := G
  intro H locs cells slots lsA hl0 hg hS hc hs
  exact lv_if_gt hX.1 hX.2.1 hdg ht (fun w => kt w H locs cells slots lsA hl0 hg hS hc hs) (fun w => kf w H locs cells slots lsA hl0 hg hS hc hs)
theorem z_icmp_gt (G : Good l s0 own nm cc nL ret hh dp K Z X) {x y : Int32} {off : Int} {tgt : Nat} (hdg : decode cc pc = .ok (.if_icmp .gt off, 3)) (hq : pc + 3 = q) (ht : (pc : Int) + off = (tgt : Int)) (kt : y < x → Z tgt ls rest g k n) (kf : ¬ y < x → Z q ls rest g k n) : Z pc ls (.int y :: .int x :: rest) g k n := by
  subst hq
  obtain ⟨Φ, p, e, s, m, args, below, meth, c, mc, ms, Q, hX, hMQ, rfl, rfl⟩ := G
  intro H locs cells slots lsA hl0 hg hS hc hs
  exact lv_icmp_gt hX.1 hX.2.1 hdg ht (fun w => kt w H locs cells slots lsA hl0 hg hS hc hs) (fun w => kf w H locs cells slots lsA hl0 hg hS hc hs)
theorem z_if_le (G : Good l s0 own nm cc nL ret hh dp K Z X) {x : Int32} {off : Int} {tgt : Nat} (hdg : decode cc pc = .ok (.ifCond .le off, 3)) (hq : pc + 3 = q) (ht : (pc : Int) + off = (tgt : Int)) (kt : x ≤ 0 → Z tgt ls rest g k n) (kf : ¬ x ≤ 0 → Z q ls rest g k n) : Z pc ls (.int x :: rest) g k n := by
  subst hq
  obtain ⟨Φ, p, e, s, m, args, below, meth, c, mc, ms, Q, hX, hMQ, rfl, rfl⟩ := G
  intro H locs cells slots lsA hl0 hg hS hc hs
  exact lv_if_le hX.1 hX.2.1 hdg ht (fun w => kt w H locs cells slots lsA hl0 hg hS hc hs) (fun w => kf w H locs cells slots lsA hl0 hg hS hc hs)
theorem z_icmp_le (G : Good l s0 own nm cc nL ret hh dp K Z X) {x y : Int32} {off : Int} {tgt : Nat} (hdg : decode cc pc = .ok (.if_icmp .le off, 3)) (hq : pc + 3 = q) (ht : (pc : Int) + off = (tgt : Int)) (kt : x ≤ y → Z tgt ls rest g k n) (kf : ¬ x ≤ y → Z q ls rest g k n) : Z pc ls (.int y :: .int x :: rest) g k n := by
  subst hq
  obtain ⟨Φ, p, e, s, m, args, below, meth, c, mc, ms, Q, hX, hMQ, rfl, rfl⟩ := G
  intro H locs cells slots lsA hl0 hg hS hc hs
  exact lv_icmp_le hX.1 hX.2.1 hdg ht (fun w => kt w H locs cells slots lsA hl0 hg hS hc hs) (fun w => kf w H locs cells slots lsA hl0 hg hS hc hs)
theorem z_goto (G : Good l s0 own nm cc nL ret hh dp K Z X) {off : Int} {tgt : Nat} (hdg : decode cc pc = .ok (.goto off, 3)) (ht : (pc : Int) + off = (tgt : Int)) (kk : Z tgt ls rest g k n) : Z pc ls rest g k n := by
  obtain ⟨Φ, p, e, s, m, args, below, meth, c, mc, ms, Q, hX, hMQ, rfl, rfl⟩ := G
  intro H locs cells slots lsA hl0 hg hS hc hs
  exact lv_goto hX.1 hX.2.1 hdg ht (kk H locs cells slots lsA hl0 hg hS hc hs)
theorem z_fdiv (G : Good l s0 own nm cc nL ret hh dp K Z X) {x y : UInt32} (hdg : decode cc pc = .ok (.fdiv, 1)) (hq : pc + 1 = q) (hne : vf_n32 (FP.fdiv x y)) (kk : Z q ls (.float (FP.fdiv x y) :: rest) g k n) : Z pc ls (.float y :: .float x :: rest) g k n := by
  subst hq
  obtain ⟨Φ, p, e, s, m, args, below, meth, c, mc, ms, Q, hX, hMQ, rfl, rfl⟩ := G
  intro H locs cells slots lsA hl0 hg hS hc hs
  exact lv_fdiv hX.1 hX.2.1 hdg hne (kk H locs cells slots lsA hl0 hg hS hc hs)
theorem z_fcmp (G : Good l s0 own nm cc nL ret hh dp K Z X) {x y : UInt32} {op : CmpOp} (hdg : decode cc pc = .ok (.fcmp op, 1)) (hq : pc + 1 = q) (kk : Z q ls (.int (Op.cmpValue (FP.fcmp x y) op) :: rest) g k n) : Z pc ls (.float y :: .float x :: rest) g k n := by
  subst hq
  obtain ⟨Φ, p, e, s, m, args, below, meth, c, mc, ms, Q, hX, hMQ, rfl, rfl⟩ := G
  intro H locs cells slots lsA hl0 hg hS hc hs
  exact lv_fcmp hX.1 hX.2.1 hdg (kk H locs cells slots lsA hl0 hg hS hc hs)
theorem z_i2f (G : Good l s0 own nm cc nL ret hh dp K Z X) {x : Int32} (hdg : decode cc pc = .ok (.i2f, 1)) (hq : pc + 1 = q) (kk : Z q ls (.float (FP.i2f x) :: rest) g k n) : Z pc ls (.int x :: rest) g k n := by
  subst hq
  obtain ⟨Φ, p, e, s, m, args, below, meth, c, mc, ms, Q, hX, hMQ, rfl, rfl⟩ := G
  intro H locs cells slots lsA hl0 hg hS hc hs
  exact lv_i2f hX.1 hX.2.1 hdg (kk H locs cells slots lsA hl0 hg hS hc hs)
theorem z_ddiv (G : Good l s0 own nm cc nL ret hh dp K Z X) {x y : UInt64} (hdg : decode cc pc = .ok (.ddiv, 1)) (hq : pc + 1 = q) (hne : vf_n64 (FP.ddiv x y)) (kk : Z q ls (.double (FP.ddiv x y) :: rest) g k n) : Z pc ls (.double y :: .double x :: rest) g k n := by
  subst hq
  obtain ⟨Φ, p, e, s, m, args, below, meth, c, mc, ms, Q, hX, hMQ, rfl, rfl⟩ := G
  intro H locs cells slots lsA hl0 hg hS hc hs
  exact lv_ddiv hX.1 hX.2.1 hdg hne (kk H locs cells slots lsA hl0 hg hS hc hs)
theorem z_dcmp (G : Good l s0 own nm cc nL ret hh dp K Z X) {x y : UInt64} {op : CmpOp} (hdg : decode cc pc = .ok (.dcmp op, 1)) (hq : pc + 1 = q) (kk : Z q ls (.int (Op.cmpValue (FP.dcmp x y) op) :: rest) g k n) : Z pc ls (.double y :: .double x :: rest) g k n := by
  subst hq
  obtain ⟨Φ, p, e, s, m, args, below, meth, c, mc, ms, Q, hX, hMQ, rfl, rfl⟩ := G
  intro H locs cells slots lsA hl0 hg hS hc hs
  exact lv_dcmp hX.1 hX.2.1 hdg (kk H locs cells slots lsA hl0 hg hS hc hs)
theorem z_i2d (G : Good l s0 own nm cc nL ret hh dp K Z X) {x : Int32} (hdg : decode cc pc = .ok (.i2d, 1)) (hq : pc + 1 = q) (kk : Z q ls (.double (FP.i2d x) :: rest) g k n) : Z pc ls (.int x :: rest) g k n := by
  subst hq
  obtain ⟨Φ, p, e, s, m, args, below, meth, c, mc, ms, Q, hX, hMQ, rfl, rfl⟩ := G
  intro H locs cells slots lsA hl0 hg hS hc hs
  exact lv_i2d hX.1 hX.2.1 hdg (kk H locs cells slots lsA hl0 hg hS hc hs)
theorem z_f2d (G : Good l s0 own nm cc nL ret hh dp K Z X) {x : UInt32} (hdg : decode cc pc = .ok (.f2d, 1)) (hq : pc + 1 = q) (hne : vf_n64 (FP.f2d x)) (kk : Z q ls (.double (FP.f2d x) :: rest) g k n) : Z pc ls (.float x :: rest) g k n := by
  subst hq
  obtain ⟨Φ, p, e, s, m, args, below, meth, c, mc, ms, Q, hX, hMQ, rfl, rfl⟩ := G
  intro H locs cells slots lsA hl0 hg hS hc hs
  exact lv_f2d hX.1 hX.2.1 hdg hne (kk H locs cells slots lsA hl0 hg hS hc hs)
theorem z_ifnonnull (G : Good l s0 own nm cc nL ret hh dp K Z X) {x : Nat} {off : Int} {tgt : Nat} (hdg : decode cc pc = .ok (.ifnonnull off, 3)) (ht : (pc : Int) + off = (tgt : Int)) (kk : Z tgt ls rest g k n) : Z pc ls (.ref x :: rest) g k n := by
  obtain ⟨Φ, p, e, s, m, args, below, meth, c, mc, ms, Q, hX, hMQ, rfl, rfl⟩ := G
  intro H locs cells slots lsA hl0 hg hS hc hs
  exact lv_ifnonnull hX.1 hX.2.1 hdg ht (kk H locs cells slots lsA hl0 hg hS hc hs)
theorem z_ifnull (G : Good l s0 own nm cc nL ret hh dp K Z X) {x : Nat} {off : Int} (hdg : decode cc pc = .ok (.ifnull off, 3)) (hq : pc + 3 = q) (kk : Z q ls rest g k n) : Z pc ls (.ref x :: rest) g k n := by
  subst hq
  obtain ⟨Φ, p, e, s, m, args, below, meth, c, mc, ms, Q, hX, hMQ, rfl, rfl⟩ := G
  intro H locs cells slots lsA hl0 hg hS hc hs
  exact lv_ifnull hX.1 hX.2.1 hdg (kk H locs cells slots lsA hl0 hg hS hc hs)
theorem z_null (G : Good l s0 own nm cc nL ret hh dp K Z X)  (hdg : decode cc pc = .ok (.aconst_null, 1)) (hq : pc + 1 = q) (kk : Z q ls (.null :: rest) g k n) : Z pc ls rest g k n := by
  subst hq
  obtain ⟨Φ, p, e, s, m, args, below, meth, c, mc, ms, Q, hX, hMQ, rfl, rfl⟩ := G
  intro H locs cells slots lsA hl0 hg hS hc hs
  exact lv_null hX.1 hX.2.1 hdg (kk H locs cells slots lsA hl0 hg hS hc hs)
theorem z_ifnullN (G : Good l s0 own nm cc nL ret hh dp K Z X) {off : Int} {tgt : Nat} (hdg : decode cc pc = .ok (.ifnull off, 3)) (ht : (pc : Int) + off = (tgt : Int)) (kk : Z tgt ls rest g k n) : Z pc ls (.null :: rest) g k n := by
  obtain ⟨Φ, p, e, s, m, args, below, meth, c, mc, ms, Q, hX, hMQ, rfl, rfl⟩ := G
  intro H locs cells slots lsA hl0 hg hS hc hs
  exact lv_ifnullN hX.1 hX.2.1 hdg ht (kk H locs cells slots lsA hl0 hg hS hc hs)
theorem z_ifnonnullN (G : Good l s0 own nm cc nL ret hh dp K Z X) {off : Int} (hdg : decode cc pc = .ok (.ifnonnull off, 3)) (hq : pc + 3 = q) (kk : Z q ls rest g k n) : Z pc ls (.null :: rest) g k n := by
  subst hq
  obtain ⟨Φ, p, e, s, m, args, below, meth, c, mc, ms, Q, hX, hMQ, rfl, rfl⟩ := G
  intro H locs cells slots lsA hl0 hg hS hc hs
  exact lv_ifnonnullN hX.1 hX.2.1 hdg (kk H locs cells slots lsA hl0 hg hS hc hs)
theorem z_acmp_eq (G : Good l s0 own nm cc nL ret hh dp K Z X) {rx ry : Option Nat} {off : Int} {tgt : Nat} (hdg : decode cc pc = .ok (.if_acmp .eq off, 3)) (hq : pc + 3 = q) (ht : (pc : Int) + off = (tgt : Int)) (kt : rx = ry → Z tgt ls rest g k n) (kf : ¬ rx = ry → Z q ls rest g k n) : Z pc ls (va_rf ry :: va_rf rx :: rest) g k n := by
  subst hq
  obtain ⟨Φ, p, e, s, m, args, below, meth, c, mc, ms, Q, hX, hMQ, rfl, rfl⟩ := G
  intro H locs cells slots lsA hl0 hg hS hc hs
  exact lv_acmp_eq hX.1 hX.2.1 hdg ht (fun w => kt w H locs cells slots lsA hl0 hg hS hc hs) (fun w => kf w H locs cells slots lsA hl0 hg hS hc hs)
theorem z_acmp_ne (G : Good l s0 own nm cc nL ret hh dp K Z X) {rx ry : Option Nat} {off : Int} {tgt : Nat} (hdg : decode cc pc = .ok (.if_acmp .ne off, 3)) (hq : pc + 3 = q) (ht : (pc : Int) + off = (tgt : Int)) (kt : ¬ rx = ry → Z tgt ls rest g k n) (kf : rx = ry → Z q ls rest g k n) : Z pc ls (va_rf ry :: va_rf rx :: rest) g k n := by
  subst hq
  obtain ⟨Φ, p, e, s, m, args, below, meth, c, mc, ms, Q, hX, hMQ, rfl, rfl⟩ := G
  intro H locs cells slots lsA hl0 hg hS hc hs
  exact lv_acmp_ne hX.1 hX.2.1 hdg ht (fun w => kt w H locs cells slots lsA hl0 hg hS hc hs) (fun w => kf w H locs cells slots lsA hl0 hg hS hc hs)
theorem z_lookup (G : Good l s0 own nm cc nL ret hh dp K Z X) {dflt : Int} {ps : Array (Int × Int)} {len : Nat} {x : Int32} {off : Int} {tgt : Nat} (hdg : decode cc pc = .ok (.lookupswitch dflt ps, len)) (hp : (ps.toList.zip (ps.toList.drop 1)).all (fun (a, next) => a.1 < next.1) = true) (ho : Op.lookupswitch.offset ps.toList dflt x.toInt = off) (ht : (pc : Int) + off = (tgt : Int)) (kk : Z tgt ls rest g k n) : Z pc ls (.int x :: rest) g k n := by
  obtain ⟨Φ, p, e, s, m, args, below, meth, c, mc, ms, Q, hX, hMQ, rfl, rfl⟩ := G
  intro H locs cells slots lsA hl0 hg hS hc hs
  exact lv_lookup hX.1 hX.2.1 hdg hp ho ht (kk H locs cells slots lsA hl0 hg hS hc hs)
theorem z_tableIn (G : Good l s0 own nm cc nL ret hh dp K Z X) {dflt lo hi : Int} {offs : Array Int} {len : Nat} {x : Int32} {off : Int} {tgt : Nat} (hdg : decode cc pc = .ok (.tableswitch dflt lo hi offs, len)) (h1 : ¬ x.toInt < lo) (h2 : ¬ hi < x.toInt) (ho : offs[(x.toInt - lo).toNat]? = some off) (ht : (pc : Int) + off = (tgt : Int)) (kk : Z tgt ls rest g k n) : Z pc ls (.int x :: rest) g k n := by
  obtain ⟨Φ, p, e, s, m, args, below, meth, c, mc, ms, Q, hX, hMQ, rfl, rfl⟩ := G
  intro H locs cells slots lsA hl0 hg hS hc hs
  exact lv_tableIn hX.1 hX.2.1 hdg h1 h2 ho ht (kk H locs cells slots lsA hl0 hg hS hc hs)
theorem z_tableOut (G : Good l s0 own nm cc nL ret hh dp K Z X) {dflt lo hi : Int} {offs : Array Int} {len : Nat} {x : Int32} {tgt : Nat} (hdg : decode cc pc = .ok (.tableswitch dflt lo hi offs, len)) (h : x.toInt < lo ∨ hi < x.toInt) (ht : (pc : Int) + dflt = (tgt : Int)) (kk : Z tgt ls rest g k n) : Z pc ls (.int x :: rest) g k n := by
  obtain ⟨Φ, p, e, s, m, args, below, meth, c, mc, ms, Q, hX, hMQ, rfl, rfl⟩ := G
  intro H locs cells slots lsA hl0 hg hS hc hs
  exact lv_tableOut hX.1 hX.2.1 hdg h ht (kk H locs cells slots lsA hl0 hg hS hc hs)
theorem z_lcmp (G : Good l s0 own nm cc nL ret hh dp K Z X) {x y : Int64} (hdg : decode cc pc = .ok (.lcmp, 1)) (hq : pc + 1 = q) (kk : Z q ls (.int (lg_cmp x y) :: rest) g k n) : Z pc ls (.long y :: .long x :: rest) g k n := by
  subst hq
  obtain ⟨Φ, p, e, s, m, args, below, meth, c, mc, ms, Q, hX, hMQ, rfl, rfl⟩ := G
  intro H locs cells slots lsA hl0 hg hS hc hs
  exact W.lcmp hX.1 hX.2.1 hdg (kk H locs cells slots lsA hl0 hg hS hc hs)
theorem z_dconst0 (G : Good l s0 own nm cc nL ret hh dp K Z X)  (hdg : decode cc pc = .ok (.dconst 0, 1)) (hq : pc + 1 = q) (kk : Z q ls (.double FP.dconst0 :: rest) g k n) : Z pc ls (rest) g k n := by
  subst hq
  obtain ⟨Φ, p, e, s, m, args, below, meth, c, mc, ms, Q, hX, hMQ, rfl, rfl⟩ := G
  intro H locs cells slots lsA hl0 hg hS hc hs
  exact lv_dconst0 hX.1 hX.2.1 hdg (kk H locs cells slots lsA hl0 hg hS hc hs)
theorem z_fconst0 (G : Good l s0 own nm cc nL ret hh dp K Z X)  (hdg : decode cc pc = .ok (.fconst 0, 1)) (hq : pc + 1 = q) (kk : Z q ls (.float FP.fconst0 :: rest) g k n) : Z pc ls (rest) g k n := by
  subst hq
  obtain ⟨Φ, p, e, s, m, args, below, meth, c, mc, ms, Q, hX, hMQ, rfl, rfl⟩ := G
  intro H locs cells slots lsA hl0 hg hS hc hs
  exact lv_fconst0 hX.1 hX.2.1 hdg (kk H locs cells slots lsA hl0 hg hS hc hs)
theorem z_istore_n (G : Good l s0 own nm cc nL ret hh dp K Z X) {jj : Fin 4} {i : Nat} {x : Int32} (hdg : decode cc pc = .ok (.istore_n jj, 1)) (hq : pc + 1 = q) (hi : (jj : Nat) = i) (hn : i < nL) (hcat : zcat ls i) (kk : Z q (ls.set i (some (.int x))) rest g k n) : Z pc ls (.int x :: rest) g k n := by
  subst hq
  obtain ⟨Φ, p, e, s, m, args, below, meth, c, mc, ms, Q, hX, hMQ, rfl, rfl⟩ := G
  intro H locs cells slots lsA hl0 hg hS hc hs
  exact lv_istore_n hX.1 hX.2.1 hdg hi (zL_has hl0) (by rw [hX.2.2.1]; exact hn) rfl (fun ls1 h1 => kk H locs cells slots ls1 (zL_set1 h1 hcat) hg hS hc hs)
theorem z_istore (G : Good l s0 own nm cc nL ret hh dp K Z X) {i : Nat} {x : Int32} (hdg : decode cc pc = .ok (.istore i, 2)) (hq : pc + 2 = q) (hn : i < nL) (hcat : zcat ls i) (kk : Z q (ls.set i (some (.int x))) rest g k n) : Z pc ls (.int x :: rest) g k n := by
  subst hq
  obtain ⟨Φ, p, e, s, m, args, below, meth, c, mc, ms, Q, hX, hMQ, rfl, rfl⟩ := G
  intro H locs cells slots lsA hl0 hg hS hc hs
  exact lv_istore hX.1 hX.2.1 hdg (zL_has hl0) (by rw [hX.2.2.1]; exact hn) rfl (fun ls1 h1 => kk H locs cells slots ls1 (zL_set1 h1 hcat) hg hS hc hs)
theorem z_lstore_n (G : Good l s0 own nm cc nL ret hh dp K Z X) {jj : Fin 4} {i : Nat} {x : Int64} (hdg : decode cc pc = .ok (.lstore_n jj, 1)) (hq : pc + 1 = q) (hi : (jj : Nat) = i) (hn : i + 1 < nL) (hcat : zcat ls i) (kk : Z q ((ls.set i (some (.long x))).set (i + 1) none) rest g k n) : Z pc ls (.long x :: rest) g k n := by
  subst hq
  obtain ⟨Φ, p, e, s, m, args, below, meth, c, mc, ms, Q, hX, hMQ, rfl, rfl⟩ := G
  intro H locs cells slots lsA hl0 hg hS hc hs
  exact lv_lstore_n hX.1 hX.2.1 hdg hi (zL_has hl0) (by rw [hX.2.2.1]; exact hn) rfl (fun ls1 h1 => kk H locs cells slots ls1 (zL_set2 h1 hcat) hg hS hc hs)
theorem z_lstore (G : Good l s0 own nm cc nL ret hh dp K Z X) {i : Nat} {x : Int64} (hdg : decode cc pc = .ok (.lstore i, 2)) (hq : pc + 2 = q) (hn : i + 1 < nL) (hcat : zcat ls i) (kk : Z q ((ls.set i (some (.long x))).set (i + 1) none) rest g k n) : Z pc ls (.long x :: rest) g k n := by
  subst hq
  obtain ⟨Φ, p, e, s, m, args, below, meth, c, mc, ms, Q, hX, hMQ, rfl, rfl⟩ := G
  intro H locs cells slots lsA hl0 hg hS hc hs
  exact lv_lstore hX.1 hX.2.1 hdg (zL_has hl0) (by rw [hX.2.2.1]; exact hn) rfl (fun ls1 h1 => kk H locs cells slots ls1 (zL_set2 h1 hcat) hg hS hc hs)
theorem z_fstore (G : Good l s0 own nm cc nL ret hh dp K Z X) {i : Nat} {x : UInt32} (hdg : decode cc pc = .ok (.fstore i, 2)) (hq : pc + 2 = q) (hn : i < nL) (hcat : zcat ls i) (kk : Z q (ls.set i (some (.float x))) rest g k n) : Z pc ls (.float x :: rest) g k n := by
  subst hq
  obtain ⟨Φ, p, e, s, m, args, below, meth, c, mc, ms, Q, hX, hMQ, rfl, rfl⟩ := G
  intro H locs cells slots lsA hl0 hg hS hc hs
  exact lv_fstore hX.1 hX.2.1 hdg (zL_has hl0) (by rw [hX.2.2.1]; exact hn) rfl (fun ls1 h1 => kk H locs cells slots ls1 (zL_set1 h1 hcat) hg hS hc hs)
theorem z_dstore (G : Good l s0 own nm cc nL ret hh dp K Z X) {i : Nat} {x : UInt64} (hdg : decode cc pc = .ok (.dstore i, 2)) (hq : pc + 2 = q) (hn : i + 1 < nL) (hcat : zcat ls i) (kk : Z q ((ls.set i (some (.double x))).set (i + 1) none) rest g k n) : Z pc ls (.double x :: rest) g k n := by
  subst hq
  obtain ⟨Φ, p, e, s, m, args, below, meth, c, mc, ms, Q, hX, hMQ, rfl, rfl⟩ := G
  intro H locs cells slots lsA hl0 hg hS hc hs
  exact lv_dstore hX.1 hX.2.1 hdg (zL_has hl0) (by rw [hX.2.2.1]; exact hn) rfl (fun ls1 h1 => kk H locs cells slots ls1 (zL_set2 h1 hcat) hg hS hc hs)
theorem z_astore_n (G : Good l s0 own nm cc nL ret hh dp K Z X) {jj : Fin 4} {i : Nat} {v : Value} (hdg : decode cc pc = .ok (.astore_n jj, 1)) (hq : pc + 1 = q) (hi : (jj : Nat) = i) (hv : zref v = true) (hn : i < nL) (hcat : zcat ls i) (kk : Z q (ls.set i (some v)) rest g k n) : Z pc ls (v :: rest) g k n := by
  subst hq
  obtain ⟨Φ, p, e, s, m, args, below, meth, c, mc, ms, Q, hX, hMQ, rfl, rfl⟩ := G
  intro H locs cells slots lsA hl0 hg hS hc hs
  rcases zref_or hv with rfl | ⟨x, rfl⟩
  · exact lv_astore_nN hX.1 hX.2.1 hdg hi (zL_has hl0) (by rw [hX.2.2.1]; exact hn) rfl (fun ls1 h1 => kk H locs cells slots ls1 (zL_set1 h1 hcat) hg hS hc hs)
  · exact lv_astore_n hX.1 hX.2.1 hdg hi (zL_has hl0) (by rw [hX.2.2.1]; exact hn) rfl (fun ls1 h1 => kk H locs cells slots ls1 (zL_set1 h1 hcat) hg hS hc hs)
theorem z_astore (G : Good l s0 own nm cc nL ret hh dp K Z X) {i : Nat} {v : Value} (hdg : decode cc pc = .ok (.astore i, 2)) (hq : pc + 2 = q) (hv : zref v = true) (hn : i < nL) (hcat : zcat ls i) (kk : Z q (ls.set i (some v)) rest g k n) : Z pc ls (v :: rest) g k n := by
  subst hq
  obtain ⟨Φ, p, e, s, m, args, below, meth, c, mc, ms, Q, hX, hMQ, rfl, rfl⟩ := G
  intro H locs cells slots lsA hl0 hg hS hc hs
  rcases zref_or hv with rfl | ⟨x, rfl⟩
  · exact lv_astoreN hX.1 hX.2.1 hdg (zL_has hl0) (by rw [hX.2.2.1]; exact hn) rfl (fun ls1 h1 => kk H locs cells slots ls1 (zL_set1 h1 hcat) hg hS hc hs)
  · exact lv_astore hX.1 hX.2.1 hdg (zL_has hl0) (by rw [hX.2.2.1]; exact hn) rfl (fun ls1 h1 => kk H locs cells slots ls1 (zL_set1 h1 hcat) hg hS hc hs)
theorem z_aloadv_n (G : Good l s0 own nm cc nL ret hh dp K Z X) {jj : Fin 4} {i : Nat} {v : Value} (hdg : decode cc pc = .ok (.aload_n jj, 1)) (hq : pc + 1 = q) (hi : (jj : Nat) = i) (hl : ls[i]? = some (some v)) (hv : zref v = true) (kk : Z q ls (v :: rest) g k n) : Z pc ls rest g k n := by
  subst hq
  obtain ⟨Φ, p, e, s, m, args, below, meth, c, mc, ms, Q, hX, hMQ, rfl, rfl⟩ := G
  intro H locs cells slots lsA hl0 hg hS hc hs
  rcases zref_or hv with rfl | ⟨x, rfl⟩
  · exact lv_aload_nN hX.1 hX.2.1 hdg hi (hl0.2.2 _ _ hl) (kk H locs cells slots lsA hl0 hg hS hc hs)
  · exact lv_aload_n hX.1 hX.2.1 hdg hi (hl0.2.2 _ _ hl) (kk H locs cells slots lsA hl0 hg hS hc hs)
theorem z_aloadv (G : Good l s0 own nm cc nL ret hh dp K Z X) {i : Nat} {v : Value} (hdg : decode cc pc = .ok (.aload i, 2)) (hq : pc + 2 = q) (hl : ls[i]? = some (some v)) (hv : zref v = true) (kk : Z q ls (v :: rest) g k n) : Z pc ls rest g k n := by
  subst hq
  obtain ⟨Φ, p, e, s, m, args, below, meth, c, mc, ms, Q, hX, hMQ, rfl, rfl⟩ := G
  intro H locs cells slots lsA hl0 hg hS hc hs
  rcases zref_or hv with rfl | ⟨x, rfl⟩
  · exact lv_aloadN hX.1 hX.2.1 hdg (hl0.2.2 _ _ hl) (kk H locs cells slots lsA hl0 hg hS hc hs)
  · exact lv_aload hX.1 hX.2.1 hdg (hl0.2.2 _ _ hl) (kk H locs cells slots lsA hl0 hg hS hc hs)
theorem z_iinc (G : Good l s0 own nm cc nL ret hh dp K Z X) {i : Nat} {c0 : Int} {x v : Int32} (hdg : decode cc pc = .ok (.iinc i c0, 3)) (hq : pc + 3 = q) (hl : ls[i]? = some (some (.int x))) (hv : x + Int32.ofInt c0 = v) (hn : i < nL) (hcat : zcat ls i) (kk : Z q (ls.set i (some (.int v))) rest g k n) : Z pc ls rest g k n := by
  subst hq
  obtain ⟨Φ, p, e, s, m, args, below, meth, c, mc, ms, Q, hX, hMQ, rfl, rfl⟩ := G
  intro H locs cells slots lsA hl0 hg hS hc hs
  obtain ⟨kx, hkx⟩ := List.getElem?_of_mem (zls_mem.mpr hl)
  exact lv_iinc hX.1 hX.2.1 hdg (zL_has hl0) hkx hv (by rw [hX.2.2.1]; exact hn) rfl (fun ls1 h1 => kk H locs cells slots ls1 (zL_set1 h1 hcat) hg hS hc hs)
/-! fewer locals, more room, the heap in other words; the ends -/
theorem z_less (G : Good l s0 own nm cc nL ret hh dp K Z X) {ls' : List (Option Value)} (h : ∀ (i : Nat) (v : Value), ls'[i]? = some (some v) → ls[i]? = some (some v)) (kk : Z pc ls' rest g k n) : Z pc ls rest g k n := by
  obtain ⟨Φ, p, e, s, m, args, below, meth, c, mc, ms, Q, hX, hMQ, rfl, rfl⟩ := G
  intro H locs cells slots lsA hl0 hg hS hc hs
  exact kk H locs cells slots lsA ⟨hl0.1, hl0.2.1, fun i v hi => hl0.2.2 i v (h i v hi)⟩ hg hS hc hs
theorem z_bud (G : Good l s0 own nm cc nL ret hh dp K Z X) {k' n' : Nat} (hk : k' ≤ k) (hn : n' ≤ n) (kk : Z pc ls rest g k' n') : Z pc ls rest g k n := by
  obtain ⟨Φ, p, e, s, m, args, below, meth, c, mc, ms, Q, hX, hMQ, rfl, rfl⟩ := G
  intro H locs cells slots lsA hl0 hg hS hc hs
  exact kk H locs cells slots lsA hl0 hg hS (by omega) (by omega)
theorem z_heap (G : Good l s0 own nm cc nL ret hh dp K Z X) {g' : Hp} (h : g = g') (kk : Z pc ls rest g' k n) : Z pc ls rest g k n := h ▸ kk
theorem z_open (G : Good l s0 own nm cc nL ret hh dp K Z X) {a : Nat} {kx : Nat} {pic : Hp → Nat → Prop} (ha : g a = some (zbx kx pic)) (kk : ∀ g2 : Hp, pic g2 a → (∃ w, g2 a = some w) → zdj g a g2 → Z pc ls rest (zov g a g2) k n) : Z pc ls rest g k n := by
  obtain ⟨Φ, p, e, s, m, args, below, meth, c, mc, ms, Q, hX, hMQ, rfl, rfl⟩ := G
  intro H locs cells slots lsA hl0 hg hS hc hs
  obtain ⟨g2, h1, h2, h3, h4⟩ := zok_open hg ha
  exact kk g2 h1 h2 h3 H locs cells slots lsA hl0 h4 hS hc hs
theorem z_close (G : Good l s0 own nm cc nL ret hh dp K Z X) {a : Nat} {g2 : Hp} {w : AO} {kx : Nat} {pic : Hp → Nat → Prop} (hp : pic g2 a) (hw : g2 a = some w) (dj : zdj g a g2) (kk : Z pc ls rest (zup g a (zbx kx pic)) k n) : Z pc ls rest (zov g a g2) k n := by
  obtain ⟨Φ, p, e, s, m, args, below, meth, c, mc, ms, Q, hX, hMQ, rfl, rfl⟩ := G
  intro H locs cells slots lsA hl0 hg hS hc hs
  exact kk H locs cells slots lsA hl0 (zok_close hg hp hw dj) hS hc hs
theorem z_drop (G : Good l s0 own nm cc nL ret hh dp K Z X) {g' : Hp} (h : ∀ x v, g' x = some v → g x = some v) (kk : Z pc ls rest g' k n) : Z pc ls rest g k n := by
  obtain ⟨Φ, p, e, s, m, args, below, meth, c, mc, ms, Q, hX, hMQ, rfl, rfl⟩ := G
  intro H locs cells slots lsA hl0 hg hS hc hs
  exact kk H locs cells slots lsA hl0 (zok_less hg h) hS hc hs
theorem z_free (A : Nat → Prop) {H0 H : Heap} {locs : List Loc} (h : va_S A H0 H locs) : ∀ q ∈ locs, A q.base := h.2.2
theorem z_iret (G : Good l s0 own nm cc nL ret hh dp K Z X) {v : Int32} (hdg : decode cc pc = .ok (.ireturn, 1)) {ty : FieldType} (hr : ret = some ty) (hn : narrow ty (.int v) = .int v) (hk : K (.inl (some (.int v))) g) : Z pc ls [.int v] g k n := by
  obtain ⟨Φ, p, e, s, m, args, below, meth, c, mc, ms, Q, hX, hMQ, rfl, rfl⟩ := G
  intro H locs cells slots lsA hl0 hg hS hc hs
  obtain ⟨hx, hb, -, -, -, hret, hlk, -⟩ := hX
  exact zWm hMQ (W.widen (k := mc) (n := ms) (Nat.le_trans (Nat.le_add_right _ _) hc) (Nat.le_trans (Nat.le_add_right _ _) hs) (vx_ret (W.zret hx hb (hret.trans hr) hn (fun t ht hW => ⟨_, g, rfl, hk, by rw [ht]; exact hg, by rw [ht]; exact hS.1⟩) hS.2.2 hdg hlk)))
theorem z_lret (G : Good l s0 own nm cc nL ret hh dp K Z X) {v : Int64} (hdg : decode cc pc = .ok (.lreturn, 1)) (hr : ret = some .long) (hk : K (.inl (some (.long v))) g) : Z pc ls [.long v] g k n := by
  obtain ⟨Φ, p, e, s, m, args, below, meth, c, mc, ms, Q, hX, hMQ, rfl, rfl⟩ := G
  intro H locs cells slots lsA hl0 hg hS hc hs
  obtain ⟨hx, hb, -, -, -, hret, hlk, -⟩ := hX
  exact zWm hMQ (W.widen (k := mc) (n := ms) (Nat.le_trans (Nat.le_add_right _ _) hc) (Nat.le_trans (Nat.le_add_right _ _) hs) (vx_ret (W.lret hx hb (hret.trans hr) (fun t ht hW => ⟨_, g, rfl, hk, by rw [ht]; exact hg, by rw [ht]; exact hS.1⟩) hS.2.2 hdg hlk)))
theorem z_fret (G : Good l s0 own nm cc nL ret hh dp K Z X) {v : UInt32} (hdg : decode cc pc = .ok (.freturn, 1)) (hr : ret = some .float) (hk : K (.inl (some (.float v))) g) : Z pc ls [.float v] g k n := by
  obtain ⟨Φ, p, e, s, m, args, below, meth, c, mc, ms, Q, hX, hMQ, rfl, rfl⟩ := G
  intro H locs cells slots lsA hl0 hg hS hc hs
  obtain ⟨hx, hb, -, -, -, hret, hlk, -⟩ := hX
  exact zWm hMQ (W.widen (k := mc) (n := ms) (Nat.le_trans (Nat.le_add_right _ _) hc) (Nat.le_trans (Nat.le_add_right _ _) hs) (vx_ret (W.fret hx hb (hret.trans hr) (fun t ht hW => ⟨_, g, rfl, hk, by rw [ht]; exact hg, by rw [ht]; exact hS.1⟩) hS.2.2 hdg hlk)))
theorem z_dret (G : Good l s0 own nm cc nL ret hh dp K Z X) {v : UInt64} (hdg : decode cc pc = .ok (.dreturn, 1)) (hr : ret = some .double) (hk : K (.inl (some (.double v))) g) : Z pc ls [.double v] g k n := by
  obtain ⟨Φ, p, e, s, m, args, below, meth, c, mc, ms, Q, hX, hMQ, rfl, rfl⟩ := G
  intro H locs cells slots lsA hl0 hg hS hc hs
  obtain ⟨hx, hb, -, -, -, hret, hlk, -⟩ := hX
  exact zWm hMQ (W.widen (k := mc) (n := ms) (Nat.le_trans (Nat.le_add_right _ _) hc) (Nat.le_trans (Nat.le_add_right _ _) hs) (vx_ret (W.dret hx hb (hret.trans hr) (fun t ht hW => ⟨_, g, rfl, hk, by rw [ht]; exact hg, by rw [ht]; exact hS.1⟩) hS.2.2 hdg hlk)))
theorem z_vret (G : Good l s0 own nm cc nL ret hh dp K Z X) (hdg : decode cc pc = .ok (.return_, 1)) (hr : ret = none) (hk : K (.inl none) g) : Z pc ls [] g k n := by
  obtain ⟨Φ, p, e, s, m, args, below, meth, c, mc, ms, Q, hX, hMQ, rfl, rfl⟩ := G
  intro H locs cells slots lsA hl0 hg hS hc hs
  obtain ⟨hx, hb, -, -, -, hret, hlk, -⟩ := hX
  exact zWm hMQ (W.widen (k := mc) (n := ms) (Nat.le_trans (Nat.le_add_right _ _) hc) (Nat.le_trans (Nat.le_add_right _ _) hs) (vx_ret (W.vret hx hb (hret.trans hr) (fun t ht hW => ⟨_, g, rfl, hk, by rw [ht]; exact hg, by rw [ht]; exact hS.1⟩) hS.2.2 hdg hlk)))
theorem z_aret (G : Good l s0 own nm cc nL ret hh dp K Z X) {v : Value} (hdg : decode cc pc = .ok (.areturn, 1)) {rt : FieldType} (hr : ret = some rt) (hrt : rt.isReference = true) (hv : zref v = true) (hk : K (.inl (some v)) g) : Z pc ls [v] g k n := by
  obtain ⟨Φ, p, e, s, m, args, below, meth, c, mc, ms, Q, hX, hMQ, rfl, rfl⟩ := G
  intro H locs cells slots lsA hl0 hg hS hc hs
  obtain ⟨hx, hb, -, -, -, hret, hlk, -⟩ := hX
  exact zWm hMQ (W.widen (k := mc) (n := ms) (Nat.le_trans (Nat.le_add_right _ _) hc) (Nat.le_trans (Nat.le_add_right _ _) hs) (vx_ret (W.aret hx hb (hret.trans hr) (by cases rt <;> first | exact Or.inl ⟨_, rfl⟩ | exact Or.inr ⟨_, rfl⟩ | cases hrt) (zref_or hv) (fun t ht hW => ⟨_, g, rfl, hk, by rw [ht]; exact hg, by rw [ht]; exact hS.1⟩) hS.2.2 hdg hlk)))
end
