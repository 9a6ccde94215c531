/-! WHAT IS THROWN IS CAUGHT -/
section
variable {l : Launch} {s0 : State} {own nm : String} {cc : ByteArray} {nL : Nat} {ret : Option FieldType} {hh : List ExceptionTableEntry} {dp : Nat} {K : Res → Hp → Prop} {Z : ZT} {X : ZX} {pc q : Nat} {ls : List (Option Value)} {rest st : List Value} {g : Hp} {k n a : Nat}
/-- by the row x of the table; the rows ahead don't take it -/
theorem zx_catch (G : Good l s0 own nm cc nL ret hh dp K Z X) {E name : String} (pre : List ExceptionTableEntry) (x : ExceptionTableEntry) (suf : List ExceptionTableEntry) (hsplit : hh = pre ++ x :: suf)
    (hpass : ∀ z ∈ pre, covers z pc = false ∨ (z.catchType ≠ 0 ∧ ∃ nm : String, Cond.classLink own z.catchType nm ∈ lw_all ∧ va_Nc E nm s0)) (hx : covers x pc = true) (h0x : x.catchType ≠ 0)
    (hlink : Cond.classLink own x.catchType name ∈ lw_all) (hcast : Cond.castable E name ∈ lw_tbl) (kk : ∀ q : Nat, Z x.handlerPc ls [.ref q] g k n) : X pc ls E g k n := by
  obtain ⟨Φ, p, e, s, m, args, below, meth, c, mc0, ms0, Q, hX, hMQ, rfl, rfl⟩ := G
  intro H locs cells slots lsA rest q ce hl0 hg hS hc1 hs hce hcv hcl
  obtain ⟨hx1, hb, hml, hown, hts, hret, hlk, htab, hnm0, hW, hlow, h0⟩ := hX
  refine vx_catch (name := name) hown pre x suf (by rw [htab]; exact hsplit) (fun z hz => ?_) hx h0x (hts _ hlink) (va_Nw.use rfl (va_Nw.warmC hW (zword (s := s) h0 hcast rfl))) hce hcv hcl (kk q H locs cells slots lsA hl0 hg hS hc1 hs)
  rcases hpass z hz with h | ⟨h1, nm1, h2, h3⟩
  · exact Or.inl h
  · exact Or.inr ⟨h1, nm1, hts _ h2, va_Nc.moved hW.alike h3⟩
end
