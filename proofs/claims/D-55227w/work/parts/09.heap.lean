/-! RULES FOR THE HEAP: fields, arrays, new cells, casts; CALLS -/
def zFL (own : String) (idx ci j : Nat) : Prop := ∃ (C : String) (T : u_T) (N : Nat) (ty : Nat → FieldType) (ref : String), zCls ci C T N ty ∧ j < N ∧ Cond.fieldLink own idx ref (T j).2.1 (T j).2.2.1 ∈ lw_all ∧ (ref = (T j).1 ∨ Cond.sameField ref (T j).1 (T j).2.1 (T j).2.2.1 ∈ lw_all)
def zFP (own : String) (idx ci j : Nat) (tj : FieldType) : Prop := ∃ (C : String) (T : u_T) (N : Nat) (ty : Nat → FieldType) (ref : String), zCls ci C T N ty ∧ j < N ∧ Cond.fieldLink own idx ref (T j).2.1 (T j).2.2.1 ∈ lw_all ∧ (ref = (T j).1 ∨ Cond.sameField ref (T j).1 (T j).2.1 (T j).2.2.1 ∈ lw_all) ∧ (T j).2.2.2 = false ∧ ty j = tj
def zFF (own : String) (idx ci j : Nat) (tj : FieldType) : Prop := ∃ (C : String) (T : u_T) (N : Nat) (ty : Nat → FieldType) (ref : String), zCls ci C T N ty ∧ j < N ∧ Cond.fieldLink own idx ref (T j).2.1 (T j).2.2.1 ∈ lw_all ∧ (ref = (T j).1 ∨ Cond.sameField ref (T j).1 (T j).2.1 (T j).2.2.1 ∈ lw_all) ∧ (T j).2.2.2 = true ∧ (T j).1 = own ∧ ty j = tj
def zFN (own : String) (idx ci j : Nat) : Prop := ∃ (C : String) (T : u_T) (N : Nat) (ty : Nat → FieldType) (host : String), zCls ci C T N ty ∧ j < N ∧ Cond.fieldLinkNest own idx (T j).1 (T j).2.1 (T j).2.2.1 host ∈ lw_tbl
def zFM (own : String) (idx ci j : Nat) (tj : FieldType) : Prop := ∃ (C : String) (T : u_T) (N : Nat) (ty : Nat → FieldType) (host : String), zCls ci C T N ty ∧ j < N ∧ Cond.fieldLinkNest own idx (T j).1 (T j).2.1 (T j).2.2.1 host ∈ lw_tbl ∧ (T j).2.2.2 = false ∧ ty j = tj
/-- at v stands an object of the class C -/
def zhas (l : Launch) (s0 : State) (g : Hp) (v : Nat) (C : String) : Prop := ∀ (s : State) (H : Heap) {Φ : Fr}, s0.WarmedH s.vm → St0 l s0 → zok s0 Φ g H → ∃ cell : Cell, H[v]? = some cell ∧ cell.vm.isStatics = false ∧ s.vm.findClass C = some cell.cls
theorem zhas_K {l : Launch} {s0 : State} {g : Hp} {a ci : Nat} {v : AO} {C : String} {T : u_T} {N : Nat} {ty : Nat → FieldType} (h : g a = some v) (hk : zisK v ci) (hc : zCls ci C T N ty) : zhas l s0 g a C := by
  intro s H Φ hW h0 hg
  obtain ⟨fs, r, h1, cell, q1, q2, q3, q4⟩ := zok_isK hg h hk
  have hr : r = (C, T, N) := Option.some.inj (h1.symm.trans hc.1)
  subst hr
  have hK := va_K.moved hW.alike (zK0 h0)
  exact ⟨cell, q1, by rw [q3]; rfl, by rw [q2]; exact (hK.1 ci _ hc.1).2.1⟩
theorem zword {l : Launch} {s0 s : State} (h0 : St0 l s0) {w : Cond} (hw : w ∈ lw_tbl) (ht : w.onTables = true) : va_Nw w s0 := by
  obtain ⟨-, b0, h, -⟩ := h0
  exact va_Nw.of ht (h w hw)
section
variable {l : Launch} {s0 : State} {own nm : String} {cc : ByteArray} {nL : Nat} {ret : Option FieldType} {hh : List ExceptionTableEntry} {dp : Nat} {K : Res → Hp → Prop} {Z : ZT} {X : ZX} {pc q : Nat} {ls : List (Option Value)} {rest : List Value} {g : Hp} {k n a : Nat}
theorem zP1 {s0 : State} {a : Nat} {e : Rw} {H : Heap} (h : rAt s0 a e H) : va_P (zG s0) zcl [(a, zE s0 e)] H := by
  intro k q hk
  have hz : k < 1 := (List.getElem?_eq_some_iff.mp hk).1
  rw [show k = 0 by omega] at hk
  cases hk
  exact h
theorem z_get (G : Good l s0 own nm cc nL ret hh dp K Z X) {idx ci j : Nat} (hdg : decode cc pc = .ok (.getfield idx, 3)) (hq : pc + 3 = q) (hf : zFL own idx ci j) {fs : List Value} (he : g a = some (.inl (.inr (ci, fs)))) {v : Value} (hv : fs[j]? = some v) (kk : Z q ls (v :: rest) g k n) : Z pc ls (.ref a :: rest) g k n := by
  subst hq
  obtain ⟨Φ, p, e, s, m, args, below, meth, c, mc, ms, Q, hX, hMQ, rfl, rfl⟩ := G
  intro H locs cells slots lsA hl0 hg hS hc hs
  obtain ⟨hx, hb, hml, hown, hts, hret, hlk, htab, hnm0, hW, hlow, h0⟩ := hX
  obtain ⟨C, T, N, ty, ref, ⟨hc0, hin, hty, hnm⟩, hj, hlink, hsame⟩ := hf
  have hK := va_K.moved hW.alike (zK0 h0)
  refine va_get hx hb hts hin hown hK (zP1 (zok_raw hg he).2) 0 rfl hc0 j hj (hts _ hlink) ?_ hv hdg (kk H locs cells slots lsA hl0 hg hS hc hs)
  rcases hsame with rfl | h
  · exact fun _ h9 => h9
  · exact fun x h9 => u_same (hts _ h) x h9
theorem z_getN (G : Good l s0 own nm cc nL ret hh dp K Z X) {idx ci j : Nat} (hdg : decode cc pc = .ok (.getfield idx, 3)) (hq : pc + 3 = q) (hf : zFN own idx ci j) {fs : List Value} (he : g a = some (.inl (.inr (ci, fs)))) {v : Value} (hv : fs[j]? = some v) (kk : Z q ls (v :: rest) g k n) : Z pc ls (.ref a :: rest) g k n := by
  subst hq
  obtain ⟨Φ, p, e, s, m, args, below, meth, c, mc, ms, Q, hX, hMQ, rfl, rfl⟩ := G
  intro H locs cells slots lsA hl0 hg hS hc hs
  obtain ⟨hx, hb, hml, hown, hts, hret, hlk, htab, hnm0, hW, hlow, h0⟩ := hX
  obtain ⟨C, T, N, ty, host, ⟨hc0, hin, hty, hnm⟩, hj, hlink⟩ := hf
  have hK := va_K.moved hW.alike (zK0 h0)
  exact va_getN hx hb hts hin hown hK (zP1 (zok_raw hg he).2) 0 rfl hc0 j hj (va_Nw.use rfl (va_Nw.warmF hW (zword (s := s) h0 hlink rfl))) (fun _ h9 => h9) hv hdg (kk H locs cells slots lsA hl0 hg hS hc hs)
theorem z_put (G : Good l s0 own nm cc nL ret hh dp K Z X) {idx ci j : Nat} {tj : FieldType} (hdg : decode cc pc = .ok (.putfield idx, 3)) (hq : pc + 3 = q) (hf : zFP own idx ci j tj) {fs : List Value} {v : Value} (he : g a = some (.inl (.inr (ci, fs)))) (hn : narrow tj v = v) (hfit : fits tj v = true) (hl : j < fs.length) (kk : Z q ls rest (zup g a (.inl (.inr (ci, fs.set j v)))) k n) : Z pc ls (v :: .ref a :: rest) g k n := by
  subst hq
  obtain ⟨Φ, p, e, s, m, args, below, meth, c, mc, ms, Q, hX, hMQ, rfl, rfl⟩ := G
  intro H locs cells slots lsA hl0 hg hS hc hs
  obtain ⟨hx, hb, hml, hown, hts, hret, hlk, htab, hnm0, hW, hlow, h0⟩ := hX
  obtain ⟨C, T, N, ty, ref, ⟨hc0, hin, hty, hnm⟩, hj, hlink, hsame, hfin, htj⟩ := hf
  have hK := va_K.moved hW.alike (zK0 h0)
  have hap := va_apart (own := own) hts hin ty hty hnm hK hc0
  obtain ⟨hA, r, h1, cell, q1, q2, q3, q4⟩ := zok_raw hg he
  have hr : r = (C, T, N) := Option.some.inj (h1.symm.trans hc0)
  subst hr
  obtain ⟨hSl, hfc, kC, hkC, hkind⟩ := hK.1 ci _ hc0
  obtain ⟨cf, kf, fi, f, hi, hsl⟩ := hSl j hj
  have hlay := hts _ (hin _ (u_in_lay hj))
  unfold u_lay at hlay
  rw [if_neg (by rw [hfin]; decide)] at hlay
  have hst := (u_facts hfc hkC (u_lays hts hin hj) hi).1
  have h6 := u_store hfc hkC hkind hlay hi (by rw [hty j hj, htj]) hn hfit
  have hi2 : s.fieldFound? ref (T j).2.1 (T j).2.2.1 = some (cf, kf, fi, f) := by
    rcases hsame with rfl | h
    · exact hi
    · exact u_same (hts _ h) _ hi
  refine W.putK hx hb (f := f) ⟨hown, hts _ hlink, ⟨_, _, _, hi2⟩, hst⟩ (by rw [q2]; exact h6) q1 q3 (by rw [hsl]; exact k2_hasslot (q4 j hj)) rfl rfl hdg fun H' e1 e2 e3 => ?_
  rw [hsl] at e1 ⊢
  exact kk H' _ cells slots lsA hl0 (zok_put hg he e2 e3 ⟨_, hc0, t_OB.to (V := updV (vp_V fs) j v) ⟨_, e1, q2, q3, t_set q4 hap hj v⟩ (fun i _ => vp_updV_set hl v i)⟩) (va_S.put hS e2 e3 hA) hc hs
theorem z_putM (G : Good l s0 own nm cc nL ret hh dp K Z X) {idx ci j : Nat} {tj : FieldType} (hdg : decode cc pc = .ok (.putfield idx, 3)) (hq : pc + 3 = q) (hf : zFM own idx ci j tj) {fs : List Value} {v : Value} (he : g a = some (.inl (.inr (ci, fs)))) (hn : narrow tj v = v) (hfit : fits tj v = true) (hl : j < fs.length) (kk : Z q ls rest (zup g a (.inl (.inr (ci, fs.set j v)))) k n) : Z pc ls (v :: .ref a :: rest) g k n := by
  subst hq
  obtain ⟨Φ, p, e, s, m, args, below, meth, c, mc, ms, Q, hX, hMQ, rfl, rfl⟩ := G
  intro H locs cells slots lsA hl0 hg hS hc hs
  obtain ⟨hx, hb, hml, hown, hts, hret, hlk, htab, hnm0, hW, hlow, h0⟩ := hX
  obtain ⟨C, T, N, ty, host, ⟨hc0, hin, hty, hnm⟩, hj, hlink, hfin, htj⟩ := hf
  have hK := va_K.moved hW.alike (zK0 h0)
  have hap := va_apart (own := own) hts hin ty hty hnm hK hc0
  obtain ⟨hA, r, h1, cell, q1, q2, q3, q4⟩ := zok_raw hg he
  have hr : r = (C, T, N) := Option.some.inj (h1.symm.trans hc0)
  subst hr
  obtain ⟨hSl, hfc, kC, hkC, hkind⟩ := hK.1 ci _ hc0
  obtain ⟨cf, kf, fi, f, hi, hsl⟩ := hSl j hj
  have hlay := hts _ (hin _ (u_in_lay hj))
  unfold u_lay at hlay
  rw [if_neg (by rw [hfin]; decide)] at hlay
  have hst := (u_facts hfc hkC (u_lays hts hin hj) hi).1
  have h6 := u_store hfc hkC hkind hlay hi (by rw [hty j hj, htj]) hn hfit
  refine va_WputK hx hb (f := f) hown (va_Nw.use rfl (va_Nw.warmF hW (zword (s := s) h0 hlink rfl))) hi hst (by rw [q2]; exact h6) q1 q3 (by rw [hsl]; exact k2_hasslot (q4 j hj)) rfl rfl hdg fun H' e1 e2 e3 => ?_
  rw [hsl] at e1 ⊢
  exact kk H' _ cells slots lsA hl0 (zok_put hg he e2 e3 ⟨_, hc0, t_OB.to (V := updV (vp_V fs) j v) ⟨_, e1, q2, q3, t_set q4 hap hj v⟩ (fun i _ => vp_updV_set hl v i)⟩) (va_S.put hS e2 e3 hA) hc hs
theorem z_putF (G : Good l s0 own nm cc nL ret hh dp K Z X) {idx ci j : Nat} {tj : FieldType} (hdg : decode cc pc = .ok (.putfield idx, 3)) (hq : pc + 3 = q) (hf : zFF own idx ci j tj) (hinit : nm = "<init>") {fs : List Value} {v : Value} (he : g a = some (.inl (.inr (ci, fs)))) (hn : narrow tj v = v) (hfit : fits tj v = true) (hl : j < fs.length) (kk : Z q ls rest (zup g a (.inl (.inr (ci, fs.set j v)))) k n) : Z pc ls (v :: .ref a :: rest) g k n := by
  subst hq
  obtain ⟨Φ, p, e, s, m, args, below, meth, c, mc, ms, Q, hX, hMQ, rfl, rfl⟩ := G
  intro H locs cells slots lsA hl0 hg hS hc hs
  obtain ⟨hx, hb, hml, hown, hts, hret, hlk, htab, hnm0, hW, hlow, h0⟩ := hX
  obtain ⟨C, T, N, ty, ref, ⟨hc0, hin, hty, hnm⟩, hj, hlink, hsame, hfin, hdecl, htj⟩ := hf
  have hK := va_K.moved hW.alike (zK0 h0)
  have hap := va_apart (own := own) hts hin ty hty hnm hK hc0
  obtain ⟨hA, r, h1, cell, q1, q2, q3, q4⟩ := zok_raw hg he
  have hr : r = (C, T, N) := Option.some.inj (h1.symm.trans hc0)
  subst hr
  obtain ⟨hSl, hfc, kC, hkC, hkind⟩ := hK.1 ci _ hc0
  obtain ⟨cf, kf, fi, f, hi, hsl⟩ := hSl j hj
  have hlay := hts _ (hin _ (u_in_lay hj))
  unfold u_lay at hlay
  rw [if_pos hfin] at hlay
  have hst := (u_facts hfc hkC (u_lays hts hin hj) hi).1
  have hcf : m.cls = cf := by
    obtain ⟨_, _, c', _, _, _, -, -, hf', -, -, -, hown2, -⟩ := Cond.laysFinal_spec hlay
    have e1 : c' = cf := by have := hi.symm.trans hf'; simp at this; exact this.1.symm
    rw [hdecl] at hown2
    rw [← e1]; exact Option.some.inj (hown.symm.trans hown2)
  have h6 := u_fits hfc hkC hkind (Or.inr hlay) hi (by rw [hty j hj, htj]) hn hfit
  have hi2 : s.fieldFound? ref (T j).2.1 (T j).2.2.1 = some (cf, kf, fi, f) := by
    rcases hsame with rfl | h
    · exact hi
    · exact u_same (hts _ h) _ hi
  refine W.putFinK hx hb hown (hts _ hlink) hi2 hst hcf (hnm0.trans hinit) (by rw [q2]; exact h6) q1 q3 (by rw [hsl]; exact k2_hasslot (q4 j hj)) rfl rfl hdg fun H' e1 e2 e3 => ?_
  rw [hsl] at e1 ⊢
  exact kk H' _ cells slots lsA hl0 (zok_put hg he e2 e3 ⟨_, hc0, t_OB.to (V := updV (vp_V fs) j v) ⟨_, e1, q2, q3, t_set q4 hap hj v⟩ (fun i _ => vp_updV_set hl v i)⟩) (va_S.put hS e2 e3 hA) hc hs
/-! arrays -/
theorem z_alen (G : Good l s0 own nm cc nL ret hh dp K Z X) (hdg : decode cc pc = .ok (.arraylength, 1)) (hq : pc + 1 = q) {ty : FieldType} {x : vp_A} (he : g a = some (.inl (.inl (ty, x)))) (hty : ztyl[zti ty]? = some ty) (kk : Z q ls (.int (nI x.1) :: rest) g k n) : Z pc ls (.ref a :: rest) g k n := by
  subst hq
  obtain ⟨Φ, p, e, s, m, args, below, meth, c, mc, ms, Q, hX, hMQ, rfl, rfl⟩ := G
  intro H locs cells slots lsA hl0 hg hS hc hs
  obtain ⟨hx, hb, hml, hown, hts, hret, hlk, htab, hnm0, hW, hlow, h0⟩ := hX
  have hK := va_K.moved hW.alike (zK0 h0)
  refine va_alen hx hb hK (zP1 (zok_raw hg he).2) 0 (zti ty) rfl (ty := ty) ?_ rfl hdg (kk H locs cells slots lsA hl0 hg hS hc hs)
  unfold ztys
  rw [List.getElem?_map, hty]
  rfl
theorem z_iald (G : Good l s0 own nm cc nL ret hh dp K Z X) (hdg : decode cc pc = .ok (.iaload, 1)) (hq : pc + 1 = q) {L : Nat} {f : Nat → Int32} {i : Int32} (he : g a = some (.inl (.inl (.int, L, .inl f)))) (hin : vp_in i L) (kk : Z q ls (.int (f i.toNatClampNeg) :: rest) g k n) : Z pc ls (.int i :: .ref a :: rest) g k n := by
  subst hq
  obtain ⟨Φ, p, e, s, m, args, below, meth, c, mc, ms, Q, hX, hMQ, rfl, rfl⟩ := G
  intro H locs cells slots lsA hl0 hg hS hc hs
  obtain ⟨hx, hb, hml, hown, hts, hret, hlk, htab, hnm0, hW, hlow, h0⟩ := hX
  exact va_iald hx hb (va_K.moved hW.alike (zK0 h0)) (zP1 (zok_raw hg he).2) 0 0 rfl rfl hin hdg (kk H locs cells slots lsA hl0 hg hS hc hs)
theorem z_cald (G : Good l s0 own nm cc nL ret hh dp K Z X) (hdg : decode cc pc = .ok (.caload, 1)) (hq : pc + 1 = q) {L : Nat} {f : Nat → Int32} {i : Int32} (he : g a = some (.inl (.inl (.char, L, .inl f)))) (hin : vp_in i L) (kk : Z q ls (.int (f i.toNatClampNeg) :: rest) g k n) : Z pc ls (.int i :: .ref a :: rest) g k n := by
  subst hq
  obtain ⟨Φ, p, e, s, m, args, below, meth, c, mc, ms, Q, hX, hMQ, rfl, rfl⟩ := G
  intro H locs cells slots lsA hl0 hg hS hc hs
  obtain ⟨hx, hb, hml, hown, hts, hret, hlk, htab, hnm0, hW, hlow, h0⟩ := hX
  exact va_cald hx hb (va_K.moved hW.alike (zK0 h0)) (zP1 (zok_raw hg he).2) 0 3 rfl rfl hin hdg (kk H locs cells slots lsA hl0 hg hS hc hs)
theorem z_bald (G : Good l s0 own nm cc nL ret hh dp K Z X) (hdg : decode cc pc = .ok (.baload, 1)) (hq : pc + 1 = q) {L : Nat} {f : Nat → Int32} {i : Int32} (he : g a = some (.inl (.inl (.byte, L, .inl f)))) (hin : vp_in i L) (kk : Z q ls (.int (f i.toNatClampNeg) :: rest) g k n) : Z pc ls (.int i :: .ref a :: rest) g k n := by
  subst hq
  obtain ⟨Φ, p, e, s, m, args, below, meth, c, mc, ms, Q, hX, hMQ, rfl, rfl⟩ := G
  intro H locs cells slots lsA hl0 hg hS hc hs
  obtain ⟨hx, hb, hml, hown, hts, hret, hlk, htab, hnm0, hW, hlow, h0⟩ := hX
  exact va_bald hx hb (va_K.moved hW.alike (zK0 h0)) (zP1 (zok_raw hg he).2) 0 4 rfl rfl hin hdg (kk H locs cells slots lsA hl0 hg hS hc hs)
theorem z_lald (G : Good l s0 own nm cc nL ret hh dp K Z X) (hdg : decode cc pc = .ok (.laload, 1)) (hq : pc + 1 = q) {L : Nat} {f : Nat → Int64} {i : Int32} (he : g a = some (.inl (.inl (.long, L, .inr (.inl f))))) (hin : vp_in i L) (kk : Z q ls (.long (f i.toNatClampNeg) :: rest) g k n) : Z pc ls (.int i :: .ref a :: rest) g k n := by
  subst hq
  obtain ⟨Φ, p, e, s, m, args, below, meth, c, mc, ms, Q, hX, hMQ, rfl, rfl⟩ := G
  intro H locs cells slots lsA hl0 hg hS hc hs
  obtain ⟨hx, hb, hml, hown, hts, hret, hlk, htab, hnm0, hW, hlow, h0⟩ := hX
  exact va_lald hx hb (va_K.moved hW.alike (zK0 h0)) (zP1 (zok_raw hg he).2) 0 1 rfl rfl hin hdg (kk H locs cells slots lsA hl0 hg hS hc hs)
theorem z_dald (G : Good l s0 own nm cc nL ret hh dp K Z X) (hdg : decode cc pc = .ok (.daload, 1)) (hq : pc + 1 = q) {L : Nat} {f : Nat → UInt64} {i : Int32} (he : g a = some (.inl (.inl (.double, L, .inr (.inr (.inr (.inl f))))))) (hin : vp_in i L) (kk : Z q ls (.double (f i.toNatClampNeg) :: rest) g k n) : Z pc ls (.int i :: .ref a :: rest) g k n := by
  subst hq
  obtain ⟨Φ, p, e, s, m, args, below, meth, c, mc, ms, Q, hX, hMQ, rfl, rfl⟩ := G
  intro H locs cells slots lsA hl0 hg hS hc hs
  obtain ⟨hx, hb, hml, hown, hts, hret, hlk, htab, hnm0, hW, hlow, h0⟩ := hX
  exact va_dald hx hb (va_K.moved hW.alike (zK0 h0)) (zP1 (zok_raw hg he).2) 0 2 rfl rfl hin hdg (kk H locs cells slots lsA hl0 hg hS hc hs)
/-- arrays of references: all are Object[] here -/
abbrev zOA : FieldType := .object "java/lang/Object"
abbrev zoa (L : Nat) (f : Nat → Option Nat) : AO := .inl (.inl (zOA, L, .inr (.inr (.inr (.inr f)))))
theorem z_aald (G : Good l s0 own nm cc nL ret hh dp K Z X) (hdg : decode cc pc = .ok (.aaload, 1)) (hq : pc + 1 = q) {L : Nat} {f : Nat → Option Nat} {i : Int32} (he : g a = some (zoa L f)) (hin : vp_in i L) (kk : Z q ls (va_rf (f i.toNatClampNeg) :: rest) g k n) : Z pc ls (.int i :: .ref a :: rest) g k n := by
  subst hq
  obtain ⟨Φ, p, e, s, m, args, below, meth, c, mc, ms, Q, hX, hMQ, rfl, rfl⟩ := G
  intro H locs cells slots lsA hl0 hg hS hc hs
  obtain ⟨hx, hb, hml, hown, hts, hret, hlk, htab, hnm0, hW, hlow, h0⟩ := hX
  exact va_aldq hx hb (va_K.moved hW.alike (zK0 h0)) (zP1 (zok_raw hg he).2) 0 5 rfl rfl hin hdg (kk H locs cells slots lsA hl0 hg hS hc hs)
theorem z_iast (G : Good l s0 own nm cc nL ret hh dp K Z X) (hdg : decode cc pc = .ok (.iastore, 1)) (hq : pc + 1 = q) {L : Nat} {f : Nat → Int32} {i x : Int32} (he : g a = some (.inl (.inl (.int, L, .inl f)))) (hin : vp_in i L) (kk : Z q ls rest (zup g a (.inl (.inl (.int, L, .inl (upd f i.toNatClampNeg x))))) k n) : Z pc ls (.int x :: .int i :: .ref a :: rest) g k n := by
  subst hq
  obtain ⟨Φ, p, e, s, m, args, below, meth, c, mc, ms, Q, hX, hMQ, rfl, rfl⟩ := G
  intro H locs cells slots lsA hl0 hg hS hc hs
  obtain ⟨hx, hb, hml, hown, hts, hret, hlk, htab, hnm0, hW, hlow, h0⟩ := hX
  obtain ⟨hA, hr⟩ := zok_raw hg he
  refine W.iast hx hb hr (((va_K.moved hW.alike (zK0 h0)).2 0 _ rfl).1 L (fun j => .int (f j))) (fun q => by cases q) (by show ¬ (i < 0 ∨ (arrV _ _ _).slots.size ≤ _); rw [arrV_size]; exact hin) rfl rfl hdg fun H1 e z oq => ?_
  refine kk H1 _ cells slots lsA hl0 (zok_put hg he z oq ?_) (va_S.put hS z oq hA) hc hs
  show H1[a]? = some (vp_cell _ _)
  rw [e]
  rw [vp_cell_i, vp_cell_i, arrV_store]
  congr 2
  funext q
  by_cases hq : q = i.toNatClampNeg
  · subst hq
    simp [updV, upd]
  · simp [updV, upd, hq]
theorem z_cast (G : Good l s0 own nm cc nL ret hh dp K Z X) (hdg : decode cc pc = .ok (.castore, 1)) (hq : pc + 1 = q) {L : Nat} {f : Nat → Int32} {i x : Int32} (he : g a = some (.inl (.inl (.char, L, .inl f)))) (hin : vp_in i L) (kk : Z q ls rest (zup g a (.inl (.inl (.char, L, .inl (upd f i.toNatClampNeg (vp_nar .char x)))))) k n) : Z pc ls (.int x :: .int i :: .ref a :: rest) g k n := by
  subst hq
  obtain ⟨Φ, p, e, s, m, args, below, meth, c, mc, ms, Q, hX, hMQ, rfl, rfl⟩ := G
  intro H locs cells slots lsA hl0 hg hS hc hs
  obtain ⟨hx, hb, hml, hown, hts, hret, hlk, htab, hnm0, hW, hlow, h0⟩ := hX
  obtain ⟨hA, hr⟩ := zok_raw hg he
  refine W.cast hx hb hr (((va_K.moved hW.alike (zK0 h0)).2 3 _ rfl).1 L (fun j => .int (f j))) (fun q => by cases q) (by show ¬ (i < 0 ∨ (arrV _ _ _).slots.size ≤ _); rw [arrV_size]; exact hin) rfl rfl hdg fun H1 e z oq => ?_
  refine kk H1 _ cells slots lsA hl0 (zok_put hg he z oq ?_) (va_S.put hS z oq hA) hc hs
  show H1[a]? = some (vp_cell _ _)
  rw [e]
  rw [vp_cell_i, vp_cell_i, arrV_store]
  congr 2
  funext q
  by_cases hq : q = i.toNatClampNeg
  · subst hq
    simp [updV, upd, vp_nar]
    try rfl
  · simp [updV, upd, hq]
theorem z_bast (G : Good l s0 own nm cc nL ret hh dp K Z X) (hdg : decode cc pc = .ok (.bastore, 1)) (hq : pc + 1 = q) {L : Nat} {f : Nat → Int32} {i x : Int32} (he : g a = some (.inl (.inl (.byte, L, .inl f)))) (hin : vp_in i L) (kk : Z q ls rest (zup g a (.inl (.inl (.byte, L, .inl (upd f i.toNatClampNeg (vp_nar .byte x)))))) k n) : Z pc ls (.int x :: .int i :: .ref a :: rest) g k n := by
  subst hq
  obtain ⟨Φ, p, e, s, m, args, below, meth, c, mc, ms, Q, hX, hMQ, rfl, rfl⟩ := G
  intro H locs cells slots lsA hl0 hg hS hc hs
  obtain ⟨hx, hb, hml, hown, hts, hret, hlk, htab, hnm0, hW, hlow, h0⟩ := hX
  obtain ⟨hA, hr⟩ := zok_raw hg he
  refine W.bast hx hb hr (((va_K.moved hW.alike (zK0 h0)).2 4 _ rfl).1 L (fun j => .int (f j))) (fun q => by cases q) (by show ¬ (i < 0 ∨ (arrV _ _ _).slots.size ≤ _); rw [arrV_size]; exact hin) rfl rfl hdg fun H1 e z oq => ?_
  refine kk H1 _ cells slots lsA hl0 (zok_put hg he z oq ?_) (va_S.put hS z oq hA) hc hs
  show H1[a]? = some (vp_cell _ _)
  rw [e]
  rw [vp_cell_i, vp_cell_i, arrV_store]
  congr 2
  funext q
  by_cases hq : q = i.toNatClampNeg
  · subst hq
    simp [updV, upd, vp_nar]
    try rfl
  · simp [updV, upd, hq]
theorem z_last (G : Good l s0 own nm cc nL ret hh dp K Z X) (hdg : decode cc pc = .ok (.lastore, 1)) (hq : pc + 1 = q) {L : Nat} {f : Nat → Int64} {i : Int32} {x : Int64} (he : g a = some (.inl (.inl (.long, L, .inr (.inl f))))) (hin : vp_in i L) (kk : Z q ls rest (zup g a (.inl (.inl (.long, L, .inr (.inl (vp_updL f i.toNatClampNeg x)))))) k n) : Z pc ls (.long x :: .int i :: .ref a :: rest) g k n := by
  subst hq
  obtain ⟨Φ, p, e, s, m, args, below, meth, c, mc, ms, Q, hX, hMQ, rfl, rfl⟩ := G
  intro H locs cells slots lsA hl0 hg hS hc hs
  obtain ⟨hx, hb, hml, hown, hts, hret, hlk, htab, hnm0, hW, hlow, h0⟩ := hX
  obtain ⟨hA, hr⟩ := zok_raw hg he
  refine W.last hx hb hr (((va_K.moved hW.alike (zK0 h0)).2 1 _ rfl).1 L (fun j => .long (f j))) (fun q => by cases q) (by show ¬ (i < 0 ∨ (arrV _ _ _).slots.size ≤ _); rw [arrV_size]; exact hin) rfl rfl hdg fun H1 e z oq => ?_
  refine kk H1 _ cells slots lsA hl0 (zok_put hg he z oq ?_) (va_S.put hS z oq hA) hc hs
  show H1[a]? = some (vp_cell _ _)
  rw [e]
  rw [vp_cell_l, vp_cell_l, arrV_store]
  congr 2
  funext q
  by_cases hq : q = i.toNatClampNeg
  · subst hq
    simp [updV, vp_updL]
  · simp [updV, vp_updL, hq]
theorem z_dast (G : Good l s0 own nm cc nL ret hh dp K Z X) (hdg : decode cc pc = .ok (.dastore, 1)) (hq : pc + 1 = q) {L : Nat} {f : Nat → UInt64} {i : Int32} {x : UInt64} (he : g a = some (.inl (.inl (.double, L, .inr (.inr (.inr (.inl f))))))) (hin : vp_in i L) (kk : Z q ls rest (zup g a (.inl (.inl (.double, L, .inr (.inr (.inr (.inl (vf_upd f i.toNatClampNeg x)))))))) k n) : Z pc ls (.double x :: .int i :: .ref a :: rest) g k n := by
  subst hq
  obtain ⟨Φ, p, e, s, m, args, below, meth, c, mc, ms, Q, hX, hMQ, rfl, rfl⟩ := G
  intro H locs cells slots lsA hl0 hg hS hc hs
  obtain ⟨hx, hb, hml, hown, hts, hret, hlk, htab, hnm0, hW, hlow, h0⟩ := hX
  obtain ⟨hA, hr⟩ := zok_raw hg he
  refine W.dast hx hb hr (((va_K.moved hW.alike (zK0 h0)).2 2 _ rfl).1 L (fun j => .double (f j))) (fun q => by cases q) (by show ¬ (i < 0 ∨ (arrV _ _ _).slots.size ≤ _); rw [arrV_size]; exact hin) rfl rfl hdg fun H1 e z oq => ?_
  refine kk H1 _ cells slots lsA hl0 (zok_put hg he z oq ?_) (va_S.put hS z oq hA) hc hs
  show H1[a]? = some (vp_cell _ _)
  rw [e]
  rw [vp_cell_d, vp_cell_d, arrV_store]
  congr 2
  funext q
  by_cases hq : q = i.toNatClampNeg
  · subst hq
    simp [updV, vf_upd]
  · simp [updV, vf_upd, hq]
/-- any object, as an Object[]'s element -/
def zany (l : Launch) (s0 : State) (g : Hp) (v : Nat) : Prop := ∀ (s : State) (H : Heap) {Φ : Fr}, s0.WarmedH s.vm → St0 l s0 → zok s0 Φ g H → va_Any "java/lang/Object" s H v
theorem zany_of {C : String} {v : Nat} (h : zhas l s0 g v C) (hw : Cond.castable C "java/lang/Object" ∈ lw_tbl) : zany l s0 g v := by
  intro s H Φ hW h0 hg
  obtain ⟨cell, h1, h2, h3⟩ := h s H hW h0 hg
  obtain ⟨kC, hkC, -⟩ := Vm.findClass_spec h3
  obtain ⟨c0, t0, f1, f2, f3⟩ := Cond.castable_spec (va_Nw.use (A := #[]) rfl (va_Nw.warmC hW (zword (s := s) h0 hw rfl)))
  cases h3.symm.trans f1
  exact ⟨cell, h1, h2, ⟨kC, hkC⟩, fun comp hcp => by cases hcp.symm.trans f2; exact f3⟩
theorem z_aast (G : Good l s0 own nm cc nL ret hh dp K Z X) (hdg : decode cc pc = .ok (.aastore, 1)) (hq : pc + 1 = q) {L : Nat} {f : Nat → Option Nat} {i : Int32} {v : Nat} (he : g a = some (zoa L f)) (hin : vp_in i L) (hv : zany l s0 g v) (kk : Z q ls rest (zup g a (zoa L (va_up f i.toNatClampNeg (some v)))) k n) : Z pc ls (.ref v :: .int i :: .ref a :: rest) g k n := by
  subst hq
  obtain ⟨Φ, p, e, s, m, args, below, meth, c, mc, ms, Q, hX, hMQ, rfl, rfl⟩ := G
  intro H locs cells slots lsA hl0 hg hS hc hs
  obtain ⟨hx, hb, hml, hown, hts, hret, hlk, htab, hnm0, hW, hlow, h0⟩ := hX
  obtain ⟨hA, hr⟩ := zok_raw hg he
  have hK := va_K.moved hW.alike (zK0 h0)
  have hlt : i.toNatClampNeg < L := Nat.not_le.mp fun q => hin (Or.inr q)
  have hi0 : ¬ i < 0 := fun q => hin (Or.inl q)
  obtain ⟨cellV, g1, g3, ⟨kC, hkC⟩, hasg⟩ := hv s H hW h0 hg
  obtain ⟨kA, comp, k1, k2, k3, -⟩ := (hK.2 5 _ rfl).2
  obtain ⟨kE, hkE, -⟩ := Vm.findClass_spec k3
  refine W.aast hx hb hr (fun q h => by cases h) (fun h => by cases h) k1 k2 rfl hkE ⟨hi0, by show _ < (arrV _ _ _).slots.size; rw [arrV_size]; exact hlt⟩ g1 (fun q h => by rw [h] at g3; cases g3) hkC (hasg _ k3) rfl rfl hdg fun H1 e z oq => ?_
  refine kk H1 _ cells slots lsA hl0 (zok_put hg he z oq ?_) (va_S.put hS z oq hA) hc hs
  show H1[a]? = some (vp_cell _ _)
  rw [e]
  rw [vp_cell_q, vp_cell_q, arrV_store]
  congr 2
  funext q
  by_cases hq : q = i.toNatClampNeg
  · subst hq
    simp [updV, va_up, va_rf]
  · simp [updV, va_up, hq]
theorem z_aastN (G : Good l s0 own nm cc nL ret hh dp K Z X) (hdg : decode cc pc = .ok (.aastore, 1)) (hq : pc + 1 = q) {L : Nat} {f : Nat → Option Nat} {i : Int32} (he : g a = some (zoa L f)) (hin : vp_in i L) (kk : Z q ls rest (zup g a (zoa L (va_up f i.toNatClampNeg none))) k n) : Z pc ls (.null :: .int i :: .ref a :: rest) g k n := by
  subst hq
  obtain ⟨Φ, p, e, s, m, args, below, meth, c, mc, ms, Q, hX, hMQ, rfl, rfl⟩ := G
  intro H locs cells slots lsA hl0 hg hS hc hs
  obtain ⟨hx, hb, hml, hown, hts, hret, hlk, htab, hnm0, hW, hlow, h0⟩ := hX
  obtain ⟨hA, hr⟩ := zok_raw hg he
  have hK := va_K.moved hW.alike (zK0 h0)
  refine va_WaastN (C := "java/lang/Object") hx hb hr ((hK.2 5 _ rfl).1 L (fun j => va_rf (f j))) (fun h => by cases h) (by show ¬ (i < 0 ∨ (arrV _ _ _).slots.size ≤ _); rw [arrV_size]; exact hin) rfl rfl hdg fun H1 e z oq => ?_
  refine kk H1 _ cells slots lsA hl0 (zok_put hg he z oq ?_) (va_S.put hS z oq hA) hc hs
  show H1[a]? = some (vp_cell _ _)
  rw [e]
  rw [vp_cell_q, vp_cell_q, arrV_store]
  congr 2
  funext q
  by_cases hq : q = i.toNatClampNeg
  · subst hq
    simp [updV, va_up, va_rf]
  · simp [updV, va_up, hq]
/-! new cells -/
theorem z_new (G : Good l s0 own nm cc nL ret hh dp K Z X) {idx ci N : Nat} {C : String} {T : u_T} {ty : Nat → FieldType} (hdg : decode cc pc = .ok (.new idx, 3)) (hq : pc + 3 = q) (hcls : zCls ci C T N ty) (hcl : Cond.classLink own idx C ∈ lw_all) (hinst : Cond.instantiable C N ∈ lw_all) (hini : Cond.initialized C ∈ lw_all) {fs : List Value} (hfs : (List.range N).map (fun j => defaultValue (ty j)) = fs) (hk : 1 ≤ k) (hn : N ≤ n) (kk : ∀ a : Nat, g a = none → Z q ls (.ref a :: rest) (zup g a (.inl (.inr (ci, fs)))) (k - 1) (n - N)) : Z pc ls rest g k n := by
  subst hq
  obtain ⟨Φ, p, e, s, m, args, below, meth, c, mc, ms, Q, hX, hMQ, rfl, rfl⟩ := G
  intro H locs cells slots lsA hl0 hg hS hc hs
  obtain ⟨hx, hb, hml, hown, hts, hret, hlk, htab, hnm0, hW, hlow, h0⟩ := hX
  obtain ⟨hc0, hin, hty, hnm⟩ := hcls
  have hK := va_K.moved hW.alike (zK0 h0)
  have hKn := hK.1 ci _ hc0
  refine W.newcK hx hb hown (hts _ hcl) (hts _ hinst) (hts _ hini) rfl hdg (by omega) (by omega) hKn.2.1 rfl fun H1 kC hkC e1 z1 o1 => ?_
  have hV : ∀ j, j < N → defaultValue (ty j) = vp_V fs j := by
    intro j hj
    rw [← hfs]
    unfold vp_V
    rw [List.getD_eq_getElem?_getD, List.getElem?_map, List.getElem?_range hj]
    rfl
  obtain ⟨hf, hok⟩ := zok_new (e := .inr (ci, fs)) hg z1 o1 ⟨_, hc0, (u_born ty hts hin hKn hkC e1 hty).to hV⟩
  exact kk H.size hf H1 locs (cells + 1) (slots + N) lsA hl0 hok ⟨Nat.le_trans hS.1 (by omega), fun x h1 h2 => (o1 x (Nat.lt_of_lt_of_le h1 hS.1)).trans (hS.2.1 x h1 h2), hS.2.2⟩ (by omega) (by omega)
theorem z_newa (G : Good l s0 own nm cc nL ret hh dp K Z X) {atype : ArrayType} {ty : FieldType} (hdg : decode cc pc = .ok (.newarray atype, 2)) (hq : pc + 2 = q) (hty : newarray.typeOf atype = ty) (harr : Cond.arrayClass ty ∈ lw_all) (hzt : ztyl[zti ty]? = some ty) (hra : ∀ (U : State) (cA : ClassId), va_RA U cA ty → U.vm.findClass ("[" ++ ty.toString) = some cA) {L : Int32} {N : Nat} {a0 : vp_A} (ha : ∀ cA : ClassId, vp_cell cA a0 = arrV cA N (fun _ => defaultValue ty)) (hL : L = nI N) (hN : N < 2 ^ 20) (hk : 1 ≤ k) (hn : N ≤ n) (kk : ∀ a : Nat, g a = none → Z q ls (.ref a :: rest) (zup g a (.inl (.inl (ty, a0)))) (k - 1) (n - N)) : Z pc ls (.int L :: rest) g k n := by
  subst hq
  subst hty
  obtain ⟨Φ, p, e, s, m, args, below, meth, c, mc, ms, Q, hX, hMQ, rfl, rfl⟩ := G
  intro H locs cells slots lsA hl0 hg hS hc hs
  obtain ⟨hx, hb, hml, hown, hts, hret, hlk, htab, hnm0, hW, hlow, h0⟩ := hX
  have hK := va_K.moved hW.alike (zK0 h0)
  have hN2 : N < 2 ^ 31 := by omega
  have hbyt : N * componentBytes (newarray.typeOf atype) ≤ 536870912 := by
    have h8 : componentBytes (newarray.typeOf atype) ≤ 8 := by cases atype <;> decide
    calc N * componentBytes (newarray.typeOf atype) ≤ 1048576 * 8 := Nat.mul_le_mul (by omega) h8
      _ ≤ 536870912 := by decide
  refine va_newaK hx hb (hts _ harr) rfl hdg rfl (by rw [hL]; exact nI_pos hN2) (by rw [hL]; exact nI_clamp hN2) hbyt (by omega) (by omega) rfl fun H1 cA e1 z1 o1 hAr hNm => ?_
  have hcA : cA = zAC s0 (newarray.typeOf atype) := by
    have h2 := hra s _ (hK.2 (zti (newarray.typeOf atype)) _ (show (ztys s0)[zti (newarray.typeOf atype)]? = some (zAC s0 (newarray.typeOf atype), newarray.typeOf atype) by unfold ztys; rw [List.getElem?_map, hzt]; rfl)).2
    exact Option.some.inj (hNm.symm.trans h2)
  obtain ⟨hf, hok⟩ := zok_new (e := .inl (newarray.typeOf atype, a0)) hg z1 o1 (by
    show H1[H.size]? = some (vp_cell _ _)
    rw [ha, ← hcA]
    exact e1)
  exact kk H.size hf H1 locs (cells + 1) (slots + N) lsA hl0 hok ⟨Nat.le_trans hS.1 (by omega), fun x h1 h2 => (o1 x (Nat.lt_of_lt_of_le h1 hS.1)).trans (hS.2.1 x h1 h2), hS.2.2⟩ (by omega) (by omega)
theorem z_anew (G : Good l s0 own nm cc nL ret hh dp K Z X) {idx : Nat} (hdg : decode cc pc = .ok (.anewarray idx, 3)) (hq : pc + 3 = q) (hcl : Cond.classLink own idx "java/lang/Object" ∈ lw_all) {L : Int32} {N : Nat} (hL : L = nI N) (hN : N < 2 ^ 20) (hk : 1 ≤ k) (hn : N ≤ n) (kk : ∀ a : Nat, g a = none → Z q ls (.ref a :: rest) (zup g a (zoa N (fun _ => none))) (k - 1) (n - N)) : Z pc ls (.int L :: rest) g k n := by
  subst hq
  obtain ⟨Φ, p, e, s, m, args, below, meth, c, mc, ms, Q, hX, hMQ, rfl, rfl⟩ := G
  intro H locs cells slots lsA hl0 hg hS hc hs
  obtain ⟨hx, hb, hml, hown, hts, hret, hlk, htab, hnm0, hW, hlow, h0⟩ := hX
  have hK := va_K.moved hW.alike (zK0 h0)
  have hN2 : N < 2 ^ 31 := by omega
  have hcl2 : L.toNatClampNeg = N := by rw [hL]; exact nI_clamp hN2
  have hover : va_AO "java/lang/Object" s := va_AO.moved hW.alike (by obtain ⟨-, b0, ht, -⟩ := h0; exact va_AO.of (ht _ q248))
  refine W.anew hx hb hown (hts _ hcl) (va_AO.use hover) rfl hdg rfl (by rw [hL]; exact nI_pos hN2) (by rw [hcl2]; omega) (by omega) (by rw [hcl2]; omega) fun cA kA comp f1 f2 f3 f4 => ?_
  rw [hcl2]
  generalize hH1 : H.push ({ cls := cA, slots := Array.replicate N .null, vm := .none } : Cell) = H1
  have z1 : H1.size = H.size + 1 := by rw [← hH1, Array.size_push]
  have e1 : H1[H.size]? = some (arrV cA N (fun _ => .null)) := by rw [← hH1, Array.getElem?_push_size, ← arrV_new]
  have o1 : ∀ q : Nat, q < H.size → H1[q]? = H[q]? := fun q hq => by rw [← hH1, Array.getElem?_push, if_neg (Nat.ne_of_lt hq)]
  have hcA : cA = zAC s0 zOA := by
    obtain ⟨kA', comp', k1, k2, k3, k4⟩ := (hK.2 5 _ rfl).2
    exact Option.some.inj (f1.symm.trans k4)
  obtain ⟨hf, hok⟩ := zok_new (e := .inl (zOA, N, .inr (.inr (.inr (.inr (fun _ => none)))))) hg z1 o1 (by
    show H1[H.size]? = some (vp_cell _ _)
    rw [vp_cell_q, ← hcA]
    exact e1)
  exact kk H.size hf H1 locs (cells + 1) (slots + N) lsA hl0 hok ⟨Nat.le_trans hS.1 (by omega), fun x h1 h2 => (o1 x (Nat.lt_of_lt_of_le h1 hS.1)).trans (hS.2.1 x h1 h2), hS.2.2⟩ (by omega) (by omega)
theorem z_objInit (G : Good l s0 own nm cc nL ret hh dp K Z X) {idx : Nat} {v : Nat} (hdg : decode cc pc = .ok (.invokespecial idx, 3)) (hq : pc + 3 = q) (hlink : Cond.methodLink own idx Lib.objectInit ∈ lw_all) (hd : 1 ≤ dp) (hr : (rest.map fun v => v.category).sum ≤ 8) (kk : Z q ls rest g k n) : Z pc ls (.ref v :: rest) g k n := by
  subst hq
  obtain ⟨Φ, p, e, s, m, args, below, meth, c, mc, ms, Q, hX, hMQ, rfl, rfl⟩ := G
  intro H locs cells slots lsA hl0 hg hS hc1 hs
  obtain ⟨hx, hb, hml, hown, hts, hret, hlk, htab, hnm0, hW, hlow, h0⟩ := hX
  refine W.objInit hx hb hown (hts _ hlink) (hts _ q179) (hts _ q180) rfl hl0.1 rfl hdg hd ?_ (kk H locs cells slots lsA hl0 hg hS hc1 hs)
  have h8 : 2 * (F0 m pc lsA (.ref v :: rest)).monitorRoom + (rest.map fun v => v.category).sum ≤ 8 := lv_room hr
  show 2 * (F0 m pc lsA (.ref v :: rest)).monitorRoom + (rest.map fun v => v.category).sum + 12 ≤ 64 * dp
  omega
/-! casts -/
theorem z_castS (G : Good l s0 own nm cc nL ret hh dp K Z X) {idx v ci N : Nat} {C : String} {T : u_T} {ty : Nat → FieldType} (hdg : decode cc pc = .ok (.checkcast idx, 3)) (hq : pc + 3 = q) (hlink : Cond.classLink own idx C ∈ lw_all) (hc : zCls ci C T N ty) (hv : zhas l s0 g v C) (kk : Z q ls (.ref v :: rest) g k n) : Z pc ls (.ref v :: rest) g k n := by
  subst hq
  obtain ⟨Φ, p, e, s, m, args, below, meth, c, mc, ms, Q, hX, hMQ, rfl, rfl⟩ := G
  intro H locs cells slots lsA hl0 hg hS hc1 hs
  obtain ⟨hx, hb, hml, hown, hts, hret, hlk, htab, hnm0, hW, hlow, h0⟩ := hX
  have hK := va_K.moved hW.alike (zK0 h0)
  exact va_castS hx hb hown (hts _ hlink) (hK.1 ci _ hc.1).2 (hv s H hW h0 hg) hdg (kk H locs cells slots lsA hl0 hg hS hc1 hs)
theorem z_castY (G : Good l s0 own nm cc nL ret hh dp K Z X) {idx v : Nat} {C D : String} (hdg : decode cc pc = .ok (.checkcast idx, 3)) (hq : pc + 3 = q) (hlink : Cond.classLink own idx D ∈ lw_all) (hw : Cond.castable C D ∈ lw_tbl) (hv : zhas l s0 g v C) (kk : Z q ls (.ref v :: rest) g k n) : Z pc ls (.ref v :: rest) g k n := by
  subst hq
  obtain ⟨Φ, p, e, s, m, args, below, meth, c, mc, ms, Q, hX, hMQ, rfl, rfl⟩ := G
  intro H locs cells slots lsA hl0 hg hS hc1 hs
  obtain ⟨hx, hb, hml, hown, hts, hret, hlk, htab, hnm0, hW, hlow, h0⟩ := hX
  exact va_castY hx hb hown (hts _ hlink) (va_Nw.warmC hW (zword (s := s) h0 hw rfl)) (hv s H hW h0 hg) hdg (kk H locs cells slots lsA hl0 hg hS hc1 hs)
theorem z_castN (G : Good l s0 own nm cc nL ret hh dp K Z X) {idx : Nat} (hdg : decode cc pc = .ok (.checkcast idx, 3)) (hq : pc + 3 = q) (kk : Z q ls (.null :: rest) g k n) : Z pc ls (.null :: rest) g k n := by
  subst hq
  obtain ⟨Φ, p, e, s, m, args, below, meth, c, mc, ms, Q, hX, hMQ, rfl, rfl⟩ := G
  intro H locs cells slots lsA hl0 hg hS hc1 hs
  exact lv_castN hX.1 hX.2.1 hdg (kk H locs cells slots lsA hl0 hg hS hc1 hs)
end
