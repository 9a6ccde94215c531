/-! MATH.MIN AND MATH.MAX, as steps -/
section
variable {l : Launch} {s0 : State} {own nm : String} {cc : ByteArray} {nL : Nat} {ret : Option FieldType} {hh : List ExceptionTableEntry} {dp : Nat} {K : Res → Hp → Prop} {Z : ZT} {X : ZX} {pc q : Nat} {ls : List (Option Value)} {rest st : List Value} {g : Hp} {k n a : Nat}
theorem z_mmin (G : Good l s0 own nm cc nL ret hh dp K Z X) {x y : Int32} {idx : Nat} (hdg : decode cc pc = .ok (.invokestatic idx, 3)) (hq : pc + 3 = q) (hlink : Cond.methodLink own idx yJ20_min ∈ lw_all) (hd : 1 ≤ dp) (hr : (rest.map fun v => v.category).sum ≤ 8) (kk : Z q ls (.int (if y < x then y else x) :: rest) g k n) : Z pc ls (.int y :: .int x :: rest) g k n := by
  subst hq
  obtain ⟨Φ, p, e, s, m, args, below, meth, c, mc, ms, Q, hX, hMQ, rfl, rfl⟩ := G
  intro H locs cells slots lsA hl0 hg hS hc hs
  obtain ⟨hx, hb, hml, hown, hts, hret, hlk, htab, hnm0, hW, hlow, h0⟩ := hX
  exact va_mmin hx hb hl0.1.symm hown (hts _ hlink) (hts _ m_J20_min.1) (hts _ m_J20_min.2.1) (hts _ m_J20_min.2.2.1) hd (by show _ ≤ 64 * dp; omega) (Nat.le_trans (Nat.le_add_right _ _) hc) (Nat.le_trans (Nat.le_add_right _ _) hs) hdg (kk H locs cells slots lsA hl0 hg hS hc hs)
theorem z_mmax (G : Good l s0 own nm cc nL ret hh dp K Z X) {x y : Int32} {idx : Nat} (hdg : decode cc pc = .ok (.invokestatic idx, 3)) (hq : pc + 3 = q) (hlink : Cond.methodLink own idx yJ20_max ∈ lw_all) (hd : 1 ≤ dp) (hr : (rest.map fun v => v.category).sum ≤ 8) (kk : Z q ls (.int (if x < y then y else x) :: rest) g k n) : Z pc ls (.int y :: .int x :: rest) g k n := by
  subst hq
  obtain ⟨Φ, p, e, s, m, args, below, meth, c, mc, ms, Q, hX, hMQ, rfl, rfl⟩ := G
  intro H locs cells slots lsA hl0 hg hS hc hs
  obtain ⟨hx, hb, hml, hown, hts, hret, hlk, htab, hnm0, hW, hlow, h0⟩ := hX
  exact va_mmax hx hb hl0.1.symm hown (hts _ hlink) (hts _ m_J20_max.1) (hts _ m_J20_max.2.1) (hts _ m_J20_max.2.2.1) hd (by show _ ≤ 64 * dp; omega) (Nat.le_trans (Nat.le_add_right _ _) hc) (Nat.le_trans (Nat.le_add_right _ _) hs) hdg (kk H locs cells slots lsA hl0 hg hS hc hs)
end
