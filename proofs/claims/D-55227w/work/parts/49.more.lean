/-! MORE RULES: constants of the pool, instanceof, casts of what stands at the start -/
section
variable {l : Launch} {s0 : State} {own nm : String} {cc : ByteArray} {nL : Nat} {ret : Option FieldType} {hh : List ExceptionTableEntry} {dp : Nat} {K : Res → Hp → Prop} {Z : ZT} {X : ZX} {pc q : Nat} {ls : List (Option Value)} {rest st : List Value} {g : Hp} {k n a : Nat}
theorem z_ldcI (G : Good l s0 own nm cc nL ret hh dp K Z X) {idx : Nat} {v : Int32} (hlink : Cond.constant own idx v ∈ lw_all) (hdg : decode cc pc = .ok (.ldc idx, 2)) (hq : pc + 2 = q) (kk : Z q ls (.int v :: rest) g k n) : Z pc ls rest g k n := by
  subst hq
  obtain ⟨Φ, p, e, s, m, args, below, meth, c, mc, ms, Q, hX, hMQ, rfl, rfl⟩ := G
  intro H locs cells slots lsA hl0 hg hS hc hs
  obtain ⟨hx, hb, hml, hown, hts, hret, hlk, htab, hnm0, hW, hlow, h0⟩ := hX
  exact lv_ldc hx hb hown (hts _ hlink) hdg (kk H locs cells slots lsA hl0 hg hS hc hs)
theorem z_ldcL (G : Good l s0 own nm cc nL ret hh dp K Z X) {idx : Nat} {v : Int64} (hlink : Cond.constantLong own idx v ∈ lw_all) (hdg : decode cc pc = .ok (.ldc2_w idx, 3)) (hq : pc + 3 = q) (kk : Z q ls (.long v :: rest) g k n) : Z pc ls rest g k n := by
  subst hq
  obtain ⟨Φ, p, e, s, m, args, below, meth, c, mc, ms, Q, hX, hMQ, rfl, rfl⟩ := G
  intro H locs cells slots lsA hl0 hg hS hc hs
  obtain ⟨hx, hb, hml, hown, hts, hret, hlk, htab, hnm0, hW, hlow, h0⟩ := hX
  exact lv_ldc2 hx hb hown (hts _ hlink) hdg (kk H locs cells slots lsA hl0 hg hS hc hs)
theorem z_castO (G : Good l s0 own nm cc nL ret hh dp K Z X) {idx v : Nat} {C : String} (hdg : decode cc pc = .ok (.checkcast idx, 3)) (hq : pc + 3 = q) (hlink : Cond.classLink own idx C ∈ lw_all) (hw : Cond.castable C C ∈ lw_tbl) (hv : zhas l s0 g v C) (kk : Z q ls (.ref v :: rest) g k n) : Z pc ls (.ref v :: rest) g k n := by
  subst hq
  obtain ⟨Φ, p, e, s, m, args, below, meth, c, mc, ms, Q, hX, hMQ, rfl, rfl⟩ := G
  intro H locs cells slots lsA hl0 hg hS hc1 hs
  obtain ⟨hx, hb, hml, hown, hts, hret, hlk, htab, hnm0, hW, hlow, h0⟩ := hX
  exact va_castY hx hb hown (hts _ hlink) (va_Nw.warmC hW (zword (s := s) h0 hw rfl)) (hv s H hW h0 hg) hdg (kk H locs cells slots lsA hl0 hg hS hc1 hs)
theorem z_instY (G : Good l s0 own nm cc nL ret hh dp K Z X) {idx v : Nat} {C D : String} (hdg : decode cc pc = .ok (.instanceof idx, 3)) (hq : pc + 3 = q) (hlink : Cond.classLink own idx D ∈ lw_all) (hw : Cond.castable C D ∈ lw_tbl) (hv : zhas l s0 g v C) (kk : Z q ls (.int 1 :: rest) g k n) : Z pc ls (.ref v :: rest) g k n := by
  subst hq
  obtain ⟨Φ, p, e, s, m, args, below, meth, c, mc, ms, Q, hX, hMQ, rfl, rfl⟩ := G
  intro H locs cells slots lsA hl0 hg hS hc1 hs
  obtain ⟨hx, hb, hml, hown, hts, hret, hlk, htab, hnm0, hW, hlow, h0⟩ := hX
  exact va_instY hx hb hown (hts _ hlink) (va_Nw.warmC hW (zword (s := s) h0 hw rfl)) (hv s H hW h0 hg) hdg (kk H locs cells slots lsA hl0 hg hS hc1 hs)
end
/-! THE COPY OF A STRETCH of an array -/
section
variable {l : Launch} {s0 : State} {own nm : String} {cc : ByteArray} {nL : Nat} {ret : Option FieldType} {hh : List ExceptionTableEntry} {dp : Nat} {K : Res → Hp → Prop} {Z : ZT} {X : ZX} {pc q : Nat} {ls : List (Option Value)} {rest st : List Value} {g : Hp} {k n a a0 : Nat}
theorem zkind {s0 s : State} {l : Launch} (h0 : St0 l s0) (hW : s0.WarmedH s.vm) {ty : FieldType} (hzt : ztyl[zti ty]? = some ty) (N : Nat) (z : Nat → Value) : s.isArrayOf (arrV (zAC s0 ty) N z) ty ∧ va_RA s (zAC s0 ty) ty := by
  have hK := va_K.moved hW.alike (zK0 h0)
  have h := hK.2 (zti ty) (zAC s0 ty, ty) (by unfold ztys; rw [List.getElem?_map, hzt]; rfl)
  exact ⟨(h.1 N z), h.2⟩
theorem nI_ti {m : Nat} (h : m < 2 ^ 31) : (nI m).toInt = (m : Int) := nI_toInt h
theorem z_copyi (G : Good l s0 own nm cc nL ret hh dp K Z X) {idx : Nat} {ty : FieldType} {n0 n1 : Nat} {f f1 : Nat → Int32} {sp tp len : Nat} (hdg : decode cc pc = .ok (.invokestatic idx, 3)) (hq : pc + 3 = q) (hlink : Cond.methodLink own idx arraycopyName ∈ lw_all) (hzt : ztyl[zti ty]? = some ty) (hprim : refKind ty = false)
    (he0 : g a0 = some (.inl (.inl (ty, n0, .inl f)))) (he1 : g a = some (.inl (.inl (ty, n1, .inl f1)))) (hs : sp + len ≤ n0) (ht : tp + len ≤ n1) (hb0 : n0 < 2 ^ 31) (hb1 : n1 < 2 ^ 31) (hfit : ∀ i, i < len → fits ty (.int (f (sp + i))) = true) (hd : 1 ≤ dp) (hr : (rest.map fun v => v.category).sum ≤ 8)
    (kk : Z q ls rest (zup g a (.inl (.inl (ty, n1, .inl (va_cpy f f1 sp tp len))))) k n) : Z pc ls (.int (nI len) :: .int (nI tp) :: .ref a :: .int (nI sp) :: .ref a0 :: rest) g k n := by
  subst hq
  obtain ⟨Φ, p, e, s, m, args, below, meth, c, mc, ms, Q, hX, hMQ, rfl, rfl⟩ := G
  intro H locs cells slots lsA hl0 hg hS hc1 hs1
  obtain ⟨hx, hb, hml, hown, hts, hret, hlk, htab, hnm0, hW, hlow, h0⟩ := hX
  intro T hT XX
  obtain ⟨-, hr0⟩ := zok_raw hg he0
  obtain ⟨hA1, hr1⟩ := zok_raw hg he1
  have hc0 : H[a0]? = some (vp_cell (zAC s0 ty) (n0, .inl f)) := hr0
  have hc9 : H[a]? = some (vp_cell (zAC s0 ty) (n1, .inl f1)) := hr1
  obtain ⟨-, k0, hk0, cm0, hkk0⟩ := (zkind h0 hW hzt n0 (fun j => .int (f j))).1
  obtain ⟨-, k1, hk1, cm1, hkk1⟩ := (zkind h0 hW hzt n1 (fun j => .int (f1 j))).1
  have e1 : (nI sp).toNatClampNeg = sp := nI_clamp (by omega)
  have e2 : (nI tp).toNatClampNeg = tp := nI_clamp (by omega)
  have e3 : (nI len).toNatClampNeg = len := nI_clamp (by omega)
  obtain ⟨vm', X', step⟩ := XX.arraycopy hx hown (hts _ hlink) (hts _ q502) (hts _ q501) (hts _ q142) (src := a0) (dst := a) (cs := vp_cell (zAC s0 ty) (n0, .inl f)) (cd := vp_cell (zAC s0 ty) (n1, .inl f1)) (srcPos := nI sp) (destPos := nI tp) (n := nI len) (by rw [hT]; exact hc0) (by rw [hT]; exact hc9)
    (fun _ h => by cases h) (fun _ h => by cases h) (fun h => by cases h) (fun h => by cases h) hk0 hk1 hkk0 hkk1 (by simp [hprim]) (nI_pos (by omega)) (nI_pos (by omega)) (nI_pos (by omega))
    (by rw [nI_ti (by omega), nI_ti (by omega)]; show ¬ _ > ((arrV (zAC s0 ty) n0 (fun j => .int (f j))).slots.size : Int); rw [arrV_size]; omega)
    (by rw [nI_ti (by omega), nI_ti (by omega)]; show ¬ _ > ((arrV (zAC s0 ty) n1 (fun j => .int (f1 j))).slots.size : Int); rw [arrV_size]; omega)
    (fun vm₁ _ i hi => by
      rw [e3] at hi
      rw [e1]
      have e : (vp_cell (zAC s0 ty) (n0, .inl f)).slots.getD (sp + i) .null = .int (f (sp + i)) := by
        show (arrV (zAC s0 ty) n0 (fun j => .int (f j))).slots.getD _ _ = _
        rw [Array.getD_eq_getD_getElem?, arrV_read _ _ (by omega)]
        rfl
      rw [e]
      exact ⟨hfit i hi, trivial⟩)
    (g := F0 m pc lsA (.int (nI len) :: .int (nI tp) :: .ref a :: .int (nI sp) :: .ref a0 :: rest)) rfl (hl0.1) (rest := rest) rfl (by rw [hb]; exact hdg) hd (by show 2 * 0 + _ + _ ≤ 64 * dp; simp [nativeFrameWords]; omega)
  have e4 : copied (vp_cell (zAC s0 ty) (n0, .inl f)) (vp_cell (zAC s0 ty) (n1, .inl f1)) (nI sp) (nI tp) (nI len) = vp_cell (zAC s0 ty) (n1, .inl (va_cpy f f1 sp tp len)) := by
    have this : copied (vp_cell (zAC s0 ty) (n0, .inl f)) (vp_cell (zAC s0 ty) (n1, .inl f1)) (nI sp) (nI tp) (nI len) = vp_cell (zAC s0 ty) (n1, .inl (va_cpy f f1 (nI sp).toNatClampNeg (nI tp).toNatClampNeg (nI len).toNatClampNeg)) := va_copied (fun z => Value.int z) (zAC s0 ty) (zAC s0 ty) f f1 (by rw [e1, e3]; exact hs)
    rw [e1, e2, e3] at this
    exact this
  rw [e4] at X' step
  have hl : a < H.size := (Array.getElem?_eq_some_iff.mp hc9).1
  have hheap : ((T.setVm vm').setCell a (vp_cell (zAC s0 ty) (n1, .inl (va_cpy f f1 sp tp len)))).heap = H.setIfInBounds a (vp_cell (zAC s0 ty) (n1, .inl (va_cpy f f1 sp tp len))) := by rw [← hT]; rfl
  have oq : ∀ q : Nat, q ≠ a → (H.setIfInBounds a (vp_cell (zAC s0 ty) (n1, .inl (va_cpy f f1 sp tp len))))[q]? = H[q]? := fun q hq => by simp [Array.getElem?_setIfInBounds, Ne.symm hq]
  obtain ⟨t, a1, b1⟩ := kk _ _ cells slots lsA hl0 (zok_put hg he1 (e' := .inl (ty, n1, .inl (va_cpy f f1 sp tp len))) (by simp) oq (show (H.setIfInBounds a _)[a]? = some _ by simp [Array.getElem?_setIfInBounds, hl]))
    ⟨by simp; exact hS.1, fun q g1 g2 => by
      rw [oq q (fun e => g2 (by rw [e]; exact hA1))]
      exact hS.2.1 q g1 g2, fun q hq => by
      rcases List.mem_append.mp hq with h | h
      · exact hS.2.2 q h
      · obtain ⟨z, -, hz⟩ := List.mem_map.mp h
        rw [← hz]
        exact hA1⟩ hc1 hs1 _ hheap X'
  exact ⟨t, step t a1, b1⟩
theorem z_copyq (G : Good l s0 own nm cc nL ret hh dp K Z X) {idx : Nat} {n0 n1 : Nat} {f f1 : Nat → Option Nat} {sp tp len : Nat} (hdg : decode cc pc = .ok (.invokestatic idx, 3)) (hq : pc + 3 = q) (hlink : Cond.methodLink own idx arraycopyName ∈ lw_all)
    (he0 : g a0 = some (zoa n0 f)) (he1 : g a = some (zoa n1 f1)) (hs : sp + len ≤ n0) (ht : tp + len ≤ n1) (hb0 : n0 < 2 ^ 31) (hb1 : n1 < 2 ^ 31) (hel : ∀ i, i < len → ∀ y, f (sp + i) = some y → zany l s0 g y) (hd : 1 ≤ dp) (hr : (rest.map fun v => v.category).sum ≤ 8)
    (kk : Z q ls rest (zup g a (zoa n1 (va_cpy f f1 sp tp len))) k n) : Z pc ls (.int (nI len) :: .int (nI tp) :: .ref a :: .int (nI sp) :: .ref a0 :: rest) g k n := by
  subst hq
  obtain ⟨Φ, p, e, s, m, args, below, meth, c, mc, ms, Q, hX, hMQ, rfl, rfl⟩ := G
  intro H locs cells slots lsA hl0 hg hS hc1 hs1
  obtain ⟨hx, hb, hml, hown, hts, hret, hlk, htab, hnm0, hW, hlow, h0⟩ := hX
  intro T hT XX
  obtain ⟨-, hr0⟩ := zok_raw hg he0
  obtain ⟨hA1, hr1⟩ := zok_raw hg he1
  have hc0 : H[a0]? = some (vp_cell (zAC s0 zOA) (n0, .inr (.inr (.inr (.inr f))))) := hr0
  have hc9 : H[a]? = some (vp_cell (zAC s0 zOA) (n1, .inr (.inr (.inr (.inr f1))))) := hr1
  obtain ⟨-, k0, hk0, cm0, hkk0⟩ := (zkind h0 hW (ty := zOA) rfl n0 (fun j => va_rf (f j))).1
  obtain ⟨⟨-, k1, hk1, cm1, hkk1⟩, hRA⟩ := zkind h0 hW (ty := zOA) rfl n1 (fun j => va_rf (f1 j))
  have e1 : (nI sp).toNatClampNeg = sp := nI_clamp (by omega)
  have e2 : (nI tp).toNatClampNeg = tp := nI_clamp (by omega)
  have e3 : (nI len).toNatClampNeg = len := nI_clamp (by omega)
  obtain ⟨vm', X', step⟩ := XX.arraycopy hx hown (hts _ hlink) (hts _ q502) (hts _ q501) (hts _ q142) (src := a0) (dst := a) (cs := vp_cell (zAC s0 zOA) (n0, .inr (.inr (.inr (.inr f))))) (cd := vp_cell (zAC s0 zOA) (n1, .inr (.inr (.inr (.inr f1))))) (srcPos := nI sp) (destPos := nI tp) (n := nI len) (by rw [hT]; exact hc0) (by rw [hT]; exact hc9)
    (fun _ h => by cases h) (fun _ h => by cases h) (fun h => by cases h) (fun h => by cases h) hk0 hk1 hkk0 hkk1 rfl (nI_pos (by omega)) (nI_pos (by omega)) (nI_pos (by omega))
    (by rw [nI_ti (by omega), nI_ti (by omega)]; show ¬ _ > ((arrV (zAC s0 zOA) n0 (fun j => va_rf (f j))).slots.size : Int); rw [arrV_size]; omega)
    (by rw [nI_ti (by omega), nI_ti (by omega)]; show ¬ _ > ((arrV (zAC s0 zOA) n1 (fun j => va_rf (f1 j))).slots.size : Int); rw [arrV_size]; omega)
    (fun vm₁ hal i hi => by
      rw [e3] at hi
      rw [e1]
      have e : (vp_cell (zAC s0 zOA) (n0, .inr (.inr (.inr (.inr f))))).slots.getD (sp + i) .null = va_rf (f (sp + i)) := by
        show (arrV (zAC s0 zOA) n0 (fun j => va_rf (f j))).slots.getD _ _ = _
        rw [Array.getD_eq_getD_getElem?, arrV_read _ _ (by omega)]
        rfl
      rw [e]
      cases hy : f (sp + i) with
      | none => exact ⟨rfl, trivial⟩
      | some y =>
        obtain ⟨cellV, g1, g2, ⟨kC, hkC⟩, hasg⟩ := hel i hi y hy s H hW h0 hg
        obtain ⟨kA, comp, r1, r2, r3, -⟩ := hRA
        cases hk1.symm.trans r1
        cases hkk1.symm.trans r2
        obtain ⟨kE, hkE, -⟩ := Vm.findClass_spec r3
        obtain ⟨kC', hkC', -⟩ := hal.2.2 _ _ hkC
        obtain ⟨kE', hkE', -⟩ := hal.2.2 _ _ hkE
        refine ⟨rfl, cellV, (show T.heap[y]? = some cellV by rw [hT]; exact g1), (fun q h => by rw [h] at g2; cases g2), ⟨kC', hkC'⟩, ?_, ?_⟩
        · exact ⟨kE', hkE'⟩
        · show vm₁.assignable _ _ = true
          rw [hal.assignable]
          exact hasg _ r3)
    (g := F0 m pc lsA (.int (nI len) :: .int (nI tp) :: .ref a :: .int (nI sp) :: .ref a0 :: rest)) rfl (hl0.1) (rest := rest) rfl (by rw [hb]; exact hdg) hd (by show 2 * 0 + _ + _ ≤ 64 * dp; simp [nativeFrameWords]; omega)
  have e4 : copied (vp_cell (zAC s0 zOA) (n0, .inr (.inr (.inr (.inr f))))) (vp_cell (zAC s0 zOA) (n1, .inr (.inr (.inr (.inr f1))))) (nI sp) (nI tp) (nI len) = vp_cell (zAC s0 zOA) (n1, .inr (.inr (.inr (.inr (va_cpy f f1 sp tp len))))) := by
    have this : copied (vp_cell (zAC s0 zOA) (n0, .inr (.inr (.inr (.inr f))))) (vp_cell (zAC s0 zOA) (n1, .inr (.inr (.inr (.inr f1))))) (nI sp) (nI tp) (nI len) = vp_cell (zAC s0 zOA) (n1, .inr (.inr (.inr (.inr (va_cpy f f1 (nI sp).toNatClampNeg (nI tp).toNatClampNeg (nI len).toNatClampNeg))))) := by
      rw [vp_cell_q, vp_cell_q, vp_cell_q]
      exact va_copied (fun z => va_rf z) (zAC s0 zOA) (zAC s0 zOA) f f1 (by rw [e1, e3]; exact hs)
    rw [e1, e2, e3] at this
    exact this
  rw [e4] at X' step
  have hl : a < H.size := (Array.getElem?_eq_some_iff.mp hc9).1
  have hheap : ((T.setVm vm').setCell a (vp_cell (zAC s0 zOA) (n1, .inr (.inr (.inr (.inr (va_cpy f f1 sp tp len))))))).heap = H.setIfInBounds a (vp_cell (zAC s0 zOA) (n1, .inr (.inr (.inr (.inr (va_cpy f f1 sp tp len)))))) := by rw [← hT]; rfl
  have oq : ∀ q : Nat, q ≠ a → (H.setIfInBounds a (vp_cell (zAC s0 zOA) (n1, .inr (.inr (.inr (.inr (va_cpy f f1 sp tp len)))))))[q]? = H[q]? := fun q hq => by simp [Array.getElem?_setIfInBounds, Ne.symm hq]
  obtain ⟨t, a1, b1⟩ := kk _ _ cells slots lsA hl0 (zok_put hg he1 (e' := .inl (zOA, n1, .inr (.inr (.inr (.inr (va_cpy f f1 sp tp len)))))) (by simp) oq (show (H.setIfInBounds a _)[a]? = some _ by simp [Array.getElem?_setIfInBounds, hl]))
    ⟨by simp; exact hS.1, fun q g1 g2 => by
      rw [oq q (fun e => g2 (by rw [e]; exact hA1))]
      exact hS.2.1 q g1 g2, fun q hq => by
      rcases List.mem_append.mp hq with h | h
      · exact hS.2.2 q h
      · obtain ⟨z, -, hz⟩ := List.mem_map.mp h
        rw [← hz]
        exact hA1⟩ hc1 hs1 _ hheap X'
  exact ⟨t, step t a1, b1⟩
end
