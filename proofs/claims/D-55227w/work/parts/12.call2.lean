/-! MORE CALLS: by an interface, of what is inherited, of what overrides; what is thrown is caught -/
theorem lw_F {own C : String} {idx : Nat} {x y : MethodName} {b : ByteArray} {L : Nat} {r : Option FieldType} (h1 : Cond.methodLink own idx x ∈ lw_all) (h2 : Cond.selects C x y ∈ lw_all) (h3 : Cond.instanceMethod y ∈ lw_all) (h4 : Cond.initialized y.cls ∈ lw_all) (h5 : Cond.code y b L r ∈ lw_all) : GoodIn lw_all (va_wsF own idx C x y (ws_ y b L r)) := by
  refine lw_app ?_ (lw_meth h5)
  intro w hw
  simp only [List.mem_cons, List.not_mem_nil, or_false] at hw
  rcases hw with e | e | e | e
  · rw [e]; exact h1
  · rw [e]; exact h2
  · rw [e]; exact h3
  · rw [e]; exact h4
theorem lw_U {own C owner : String} {idx : Nat} {x y : MethodName} {b : ByteArray} {L : Nat} {r : Option FieldType} (h1 : Cond.methodLink own idx x ∈ lw_all) (h6 : Cond.sameMethod x.cls owner x.name x.desc ∈ lw_all) (h2 : Cond.selects C x y ∈ lw_all) (h3 : Cond.instanceMethod y ∈ lw_all) (h4 : Cond.initialized y.cls ∈ lw_all) (h5 : Cond.code y b L r ∈ lw_all) : GoodIn lw_all (va_wsU own idx C owner x y (ws_ y b L r)) := by
  refine lw_app ?_ (lw_meth h5)
  intro w hw
  simp only [List.mem_cons, List.not_mem_nil, or_false] at hw
  rcases hw with e | e | e | e | e
  · rw [e]; exact h1
  · rw [e]; exact h6
  · rw [e]; exact h2
  · rw [e]; exact h3
  · rw [e]; exact h4
/-- the words of a call by an interface: x what is named, y what is run for an object of class C -/
def zMF (C : String) (x y : MethodName) (b : ByteArray) (L : Nat) (r : Option FieldType) (np : Nat) : Prop := (Cond.declares x ∈ lw_tbl ∧ Cond.interfaceMethod x.cls x.cls x.name x.desc ∈ lw_tbl ∧ Cond.publicMethod y ∈ lw_tbl ∧ Cond.unhidden C x.name x.desc ∈ lw_tbl ∧ Cond.castable C x.cls ∈ lw_tbl) ∧ Cond.selects C x y ∈ lw_all ∧ Cond.instanceMethod y ∈ lw_all ∧ Cond.initialized y.cls ∈ lw_all ∧ Cond.code y b L r ∈ lw_all ∧ (x.cls ≠ "java/lang/invoke/MethodHandle" ∧ x.cls ≠ "java/lang/invoke/VarHandle" ∧ (parseMethodDescriptor x.desc).map (fun d => d.parameters.length) = some np) ∧ L ≤ 45
/-- what is inherited (y is the owner's own) -/
def zMU (C owner : String) (x y : MethodName) (b : ByteArray) (L : Nat) (r : Option FieldType) (np : Nat) : Prop := y = ⟨owner, x.name, x.desc⟩ ∧ Cond.sameMethod x.cls owner x.name x.desc ∈ lw_all ∧ Cond.selects C x y ∈ lw_all ∧ Cond.instanceMethod y ∈ lw_all ∧ Cond.initialized y.cls ∈ lw_all ∧ Cond.code y b L r ∈ lw_all ∧ (owner ≠ "java/lang/invoke/MethodHandle" ∧ owner ≠ "java/lang/invoke/VarHandle" ∧ (parseMethodDescriptor x.desc).map (fun d => d.parameters.length) = some np) ∧ L ≤ 45
/-- what overrides an abstract one of the owner -/
def zMA (C owner : String) (x y : MethodName) (b : ByteArray) (L : Nat) (r : Option FieldType) (np : Nat) : Prop := Cond.declares ⟨owner, x.name, x.desc⟩ ∈ lw_tbl ∧ Cond.sameMethod x.cls owner x.name x.desc ∈ lw_all ∧ Cond.selects C x y ∈ lw_all ∧ Cond.instanceMethod y ∈ lw_all ∧ Cond.initialized y.cls ∈ lw_all ∧ Cond.code y b L r ∈ lw_all ∧ (owner ≠ "java/lang/invoke/MethodHandle" ∧ owner ≠ "java/lang/invoke/VarHandle" ∧ (parseMethodDescriptor x.desc).map (fun d => d.parameters.length) = some np) ∧ L ≤ 45
section
variable {l : Launch} {s0 : State} {own nm : String} {cc : ByteArray} {nL : Nat} {ret : Option FieldType} {hh : List ExceptionTableEntry} {dp : Nat} {K : Res → Hp → Prop} {Z : ZT} {X : ZX} {pc q : Nat} {ls : List (Option Value)} {rest st : List Value} {g : Hp} {k n a : Nat}
variable {x y : MethodName} {b : ByteArray} {L np d mc ms idx count : Nat} {r : Option FieldType} {T : List Value → Hp → (Res → Hp → Prop) → Prop} {As : List Value} {v : Nat} {C owner : String}
theorem z_F (G : Good l s0 own nm cc nL ret hh dp K Z X) (hdg : decode cc pc = .ok (.invokeinterface idx count, 5)) (hq : pc + 5 = q) (hM : zMF C x y b L r np) {ci N : Nat} {TT : u_T} {ty : Nat → FieldType} (hcls : zCls ci C TT N ty) (h1 : Cond.methodLink own idx x ∈ lw_all) (hC : Ctr l s0 y (ws_ y b L r) d mc ms T) (hd : d + 1 ≤ dp) (hst : st = As.reverse ++ .ref v :: rest) (hlen : As.length = np) (hr : (rest.map fun v => v.category).sum ≤ 8) (hk : mc ≤ k) (hn : ms ≤ n) (hv : zhas l s0 g v C)
    (hT : T (.ref v :: As) g (zk Z X pc q ls rest (k - mc) (n - ms))) : Z pc ls st g k n := by
  subst hq
  obtain ⟨Φ, p, e, s, m, args, below, meth, c, mc0, ms0, Q, hX, hMQ, rfl, rfl⟩ := G
  intro H locs cells slots lsA hl0 hg hS hc1 hs
  obtain ⟨hx, hb, hml, hown, hts, hret, hlk, htab, hnm0, hW, hlow, h0⟩ := id hX
  obtain ⟨⟨f1, f2, f3, f4, f5⟩, m1, m2, m3, m4, m5, m6⟩ := hM
  have hK := va_K.moved hW.alike (zK0 h0)
  have hF : va_Fw C x y s := by
    obtain ⟨-, b0, ht, -⟩ := h0
    exact va_Fw.moved ⟨m5.1, m5.2.1⟩ hW.alike (va_Fw.of (ht _ f1) (ht _ f2) (ht _ f3) (ht _ f4) (ht _ f5))
  have hp := zpre (av := .ref v :: As) hX hg
  exact zrun5 (vx_runF (b := v) (As := As) (rest := rest) (hK.1 ci _ hcls.1).2 ⟨hx, hb, hml, hown, hts⟩ (hC (.ref v :: As) g _ hT) (va_cwF np hts (lw_F h1 m1 m2 m3 m4) rfl rfl rfl hF m5 (zroom hd m6)) ⟨hp.1, hv s H hW h0 hg, hp.2⟩ rfl hlen (hl0.1.trans hml) hst (lv_room hr) hdg ⟨by show cells + mc ≤ mc0; exact Nat.le_trans (Nat.add_le_add_left hk _) hc1, by show slots + ms ≤ ms0; exact Nat.le_trans (Nat.add_le_add_left hn _) hs⟩) hl0 hg hlow hS hc1 hs hk hn
theorem z_U (G : Good l s0 own nm cc nL ret hh dp K Z X) (hdg : decode cc pc = .ok (.invokevirtual idx, 3)) (hq : pc + 3 = q) (hM : zMU C owner x y b L r np) (h1 : Cond.methodLink own idx x ∈ lw_all) (hC : Ctr l s0 y (ws_ y b L r) d mc ms T) (hd : d + 1 ≤ dp) (hst : st = As.reverse ++ .ref v :: rest) (hlen : As.length = np) (hr : (rest.map fun v => v.category).sum ≤ 8) (hk : mc ≤ k) (hn : ms ≤ n) (hv : zhas l s0 g v C)
    (hT : T (.ref v :: As) g (zk Z X pc q ls rest (k - mc) (n - ms))) : Z pc ls st g k n := by
  subst hq
  obtain ⟨Φ, p, e, s, m, args, below, meth, c, mc0, ms0, Q, hX, hMQ, rfl, rfl⟩ := G
  intro H locs cells slots lsA hl0 hg hS hc1 hs
  obtain ⟨hx, hb, hml, hown, hts, hret, hlk, htab, hnm0, hW, hlow, h0⟩ := id hX
  obtain ⟨m0, m7, m1, m2, m3, m4, m5, m6⟩ := hM
  have hp := zpre (av := .ref v :: As) hX hg
  exact zrun (vx_runU (b := v) (As := As) (rest := rest) ⟨hx, hb, hml, hown, hts⟩ (hC (.ref v :: As) g _ hT) (va_cwU np hts (lw_U h1 m7 m1 m2 m3 m4) rfl rfl rfl m0 m5 (zroom hd m6)) ⟨hp.1, hv s H hW h0 hg, hp.2⟩ rfl hlen (hl0.1.trans hml) hst (lv_room hr) hdg ⟨by show cells + mc ≤ mc0; exact Nat.le_trans (Nat.add_le_add_left hk _) hc1, by show slots + ms ≤ ms0; exact Nat.le_trans (Nat.add_le_add_left hn _) hs⟩) hl0 hg hlow hS hc1 hs hk hn
theorem z_A (G : Good l s0 own nm cc nL ret hh dp K Z X) (hdg : decode cc pc = .ok (.invokevirtual idx, 3)) (hq : pc + 3 = q) (hM : zMA C owner x y b L r np) (h1 : Cond.methodLink own idx x ∈ lw_all) (hC : Ctr l s0 y (ws_ y b L r) d mc ms T) (hd : d + 1 ≤ dp) (hst : st = As.reverse ++ .ref v :: rest) (hlen : As.length = np) (hr : (rest.map fun v => v.category).sum ≤ 8) (hk : mc ≤ k) (hn : ms ≤ n) (hv : zhas l s0 g v C)
    (hT : T (.ref v :: As) g (zk Z X pc q ls rest (k - mc) (n - ms))) : Z pc ls st g k n := by
  subst hq
  obtain ⟨Φ, p, e, s, m, args, below, meth, c, mc0, ms0, Q, hX, hMQ, rfl, rfl⟩ := G
  intro H locs cells slots lsA hl0 hg hS hc1 hs
  obtain ⟨hx, hb, hml, hown, hts, hret, hlk, htab, hnm0, hW, hlow, h0⟩ := id hX
  obtain ⟨m0, m7, m1, m2, m3, m4, m5, m6⟩ := hM
  have hp := zpre (av := .ref v :: As) hX hg
  exact zrun (vx_runU (b := v) (As := As) (rest := rest) ⟨hx, hb, hml, hown, hts⟩ (hC (.ref v :: As) g _ hT) (va_cwA np hts (lw_U h1 m7 m1 m2 m3 m4) rfl rfl rfl (va_Nw.warmD hW (zword (s := s) h0 m0 rfl)) m5 (zroom hd m6)) ⟨hp.1, hv s H hW h0 hg, hp.2⟩ rfl hlen (hl0.1.trans hml) hst (lv_room hr) hdg ⟨by show cells + mc ≤ mc0; exact Nat.le_trans (Nat.add_le_add_left hk _) hc1, by show slots + ms ≤ ms0; exact Nat.le_trans (Nat.add_le_add_left hn _) hs⟩) hl0 hg hlow hS hc1 hs hk hn
end
