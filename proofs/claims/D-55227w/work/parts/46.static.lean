/-! STATIC FIELDS THAT NOBODY WRITES -/
section
variable {l : Launch} {s0 : State} {own nm : String} {cc : ByteArray} {nL : Nat} {ret : Option FieldType} {hh : List ExceptionTableEntry} {dp : Nat} {K : Res → Hp → Prop} {Z : ZT} {X : ZX} {pc q : Nat} {ls : List (Option Value)} {rest st : List Value} {g : Hp} {k n a : Nat}
def zSt (s0 : State) (C nf d : String) (v : Value) : Prop := va_Z C nf d v (zA s0) s0 s0.heap
theorem z_getst (G : Good l s0 own nm cc nL ret hh dp K Z X) {C nf d : String} {v : Value} {idx : Nat} (hZ : zSt s0 C nf d v) (hdg : decode cc pc = .ok (.getstatic idx, 3)) (hq : pc + 3 = q) (hlink : Cond.fieldLink own idx C nf d ∈ lw_all) (kk : Z q ls (v :: rest) g k n) : Z pc ls rest g k n := by
  subst hq
  obtain ⟨Φ, p, e, s, m, args, below, meth, c, mc, ms, Q, hX, hMQ, rfl, rfl⟩ := G
  intro H locs cells slots lsA hl0 hg hS hc hs
  obtain ⟨hx, hb, hml, hown, hts, hret, hlk, htab, hnm0, hW, hlow, h0⟩ := hX
  have hZ' := (va_Z.kept hZ (H1 := s.heap) (fun a ha _ => hlow.2 a ha)).moved hW.alike
  exact va_gets hx hb hZ' hS hown (hts _ hlink) (fun _ h => h) hdg (kk H locs cells slots lsA hl0 hg hS hc hs)
end
/-- null or some reference: what a static holds of which the start says only that it is a reference -/
theorem zSt_ref {l : Launch} {s0 : State} (h0 : St0 l s0) {C nf d : String} (p : List Bool) (hl : Cond.laysStatic C nf d ∈ lw_tbl) (hi : Cond.initialized C ∈ lw_all) (hw : zget p (Jvm.Cond.and given_1 narrow_1) = some (.isRef (.static C nf d))) : zSt s0 C nf d .null ∨ ∃ t : Nat, zSt s0 C nf d (.ref t) := by
  obtain ⟨-, b0, ht, hn⟩ := h0
  exact va_Zqof (ht _ hl) (ht _ (lw_all_tbl hi)) (zget_ok p hw hn) (fun a ha hA => absurd hA (Nat.not_le.mpr ha))
/-! by number -/
theorem zSt_int {l : Launch} {s0 : State} (h0 : St0 l s0) {C nf d : String} {z : Int32} (p : List Bool) (hl : Cond.laysStatic C nf d ∈ lw_tbl) (hi : Cond.initialized C ∈ lw_all) (hw : zget p (Jvm.Cond.and given_1 narrow_1) = some (.eq (.static C nf d) (.int z))) : zSt s0 C nf d (.int z) := by
  obtain ⟨-, b0, ht, hn⟩ := h0
  exact va_Zof (ht _ hl) (ht _ (lw_all_tbl hi)) (va_eqi (zget_ok p hw hn)) (fun a ha hA => absurd hA (Nat.not_le.mpr ha))
theorem sn_String_COMPACT_STRINGS {l : Launch} {s0 : State} (h0 : St0 l s0) : zSt s0 "java/lang/String" "COMPACT_STRINGS" "Z" (.int 1) := zSt_int h0 [true, false, false, false, false, false, false, true, false, true, false] q351 q127 rfl
theorem sn_StringUTF16_assertionsDisabled {l : Launch} {s0 : State} (h0 : St0 l s0) : zSt s0 "java/lang/StringUTF16" "$assertionsDisabled" "Z" (.int 1) := zSt_int h0 [true, false, false, false, false, false, false, true, true, true, true] q529 q128 rfl
theorem sn_StringUTF16_HI_BYTE_SHIFT {l : Launch} {s0 : State} (h0 : St0 l s0) : zSt s0 "java/lang/StringUTF16" "HI_BYTE_SHIFT" "I" (.int 0) := zSt_int h0 [true, false, false, false, false, false, true, false, false, false] q531 q128 rfl
theorem sn_StringUTF16_LO_BYTE_SHIFT {l : Launch} {s0 : State} (h0 : St0 l s0) : zSt s0 "java/lang/StringUTF16" "LO_BYTE_SHIFT" "I" (.int 8) := zSt_int h0 [true, false, false, false, false, false, true, false, false, true, false] q533 q128 rfl
theorem sn_BitSet_assertionsDisabled {l : Launch} {s0 : State} (h0 : St0 l s0) : zSt s0 "java/util/BitSet" "$assertionsDisabled" "Z" (.int 1) := zSt_int h0 [true, false, true, false, false, false, true, true, false, true, true] q715 q124 rfl
theorem sn_Integer_IntegerCache_high {l : Launch} {s0 : State} (h0 : St0 l s0) : zSt s0 "java/lang/Integer$IntegerCache" "high" "I" (.int 127) := zSt_int h0 [true, false, true, false, false, false, true, true, true, false, true] q1678 q157 rfl
theorem sn_ImmutableCollections_assertionsDisabled {l : Launch} {s0 : State} (h0 : St0 l s0) : zSt s0 "java/util/ImmutableCollections" "$assertionsDisabled" "Z" (.int 1) := zSt_int h0 [true, false, true, false, false, true, false, true, false, false] q2211 q159 rfl
