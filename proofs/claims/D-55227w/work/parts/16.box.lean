/-! A CONTRACT OVER A BOX out of a contract over the box's own cells: opened ahead of the call, closed behind it -/
theorem zok_foc {s0 : State} {Φ : Fr} {g g3 : Hp} {H : Heap} {a kx : Nat} {pic : Hp → Nat → Prop} (h : zok s0 ((g, a) :: Φ) g3 H) (hp : pic g3 a) (hw : ∃ w, g3 a = some w) : zok s0 Φ (zup g a (zbx kx pic)) H := by
  obtain ⟨w, hw⟩ := hw
  exact zok_close ⟨h.1.2, h.2⟩ hp hw h.1.1
/-- in one heap with what is outside -/
def tBox (T : List Value → Hp → (Res → Hp → Prop) → Prop) : List Value → Hp → (Res → Hp → Prop) → Prop := fun av g K => ∃ (a kx : Nat) (pic : Hp → Nat → Prop), g a = some (zbx kx pic) ∧
  ∀ g2 : Hp, pic g2 a → (∃ w, g2 a = some w) → zdj g a g2 → T av (zov g a g2) (fun r g' => ∃ (gg g3 : Hp) (w : AO) (pic' : Hp → Nat → Prop), (∀ q v, zov gg a g3 q = some v → g' q = some v) ∧ g3 a = some w ∧ pic' g3 a ∧ zdj gg a g3 ∧ K r (zup gg a (zbx kx pic')))
theorem Ctr.box {l : Launch} {s0 : State} {y : MethodName} {ws : List Cond} {d mc ms : Nat} {T : List Value → Hp → (Res → Hp → Prop) → Prop} (h : Ctr l s0 y ws d mc ms T) : Ctr l s0 y ws d mc ms (tBox T) := by
  intro Φ av g K hT0 p e hl c1 c2 s m args below hfr happ hP hcond
  obtain ⟨a, kx, pic, ha, hT⟩ := hT0
  obtain ⟨rfl, hW, hok⟩ := hP
  obtain ⟨g2, q1, q2, q3, q4⟩ := zok_open hok ha
  obtain ⟨n, o, r1, r2, r3, r4⟩ := h av (zov g a g2) _ (hT g2 q1 q2 q3) p e hl c1 c2 s m av.toArray below hfr happ ⟨rfl, hW, q4⟩ trivial
  refine ⟨n, o, r1, r2, r3, ?_⟩
  rcases r4 with ⟨⟨v, g', e1, ⟨gg, g3, w, pic', hs, w1, w2, w3, w4⟩, ok', sz⟩, hend⟩ | ⟨q, e1, E, ce, L, ⟨g', ⟨gg, g3, w, pic', hs, w1, w2, w3, w4⟩, ok', sz⟩, hrest⟩
  · exact Or.inl ⟨⟨v, _, e1, w4, zok_wrap ok' hs w2 w1 w3, sz⟩, hend⟩
  · exact Or.inr ⟨q, e1, E, ce, L, ⟨_, w4, zok_wrap ok' hs w2 w1 w3, sz⟩, hrest⟩
/-- in a heap of its own -/
def fBox (T : List Value → Hp → (Res → Hp → Prop) → Prop) : List Value → Hp → (Res → Hp → Prop) → Prop := fun av g K => ∃ (a kx : Nat) (pic : Hp → Nat → Prop), g a = some (zbx kx pic) ∧
  ∀ g2 : Hp, pic g2 a → (∃ w, g2 a = some w) → T av g2 (fun r g3 => ∃ pic' : Hp → Nat → Prop, pic' g3 a ∧ (∃ w, g3 a = some w) ∧ K r (zup g a (zbx kx pic')))
theorem Ctr.foc {l : Launch} {s0 : State} {y : MethodName} {ws : List Cond} {d mc ms : Nat} {T : List Value → Hp → (Res → Hp → Prop) → Prop} (h : Ctr l s0 y ws d mc ms T) : Ctr l s0 y ws d mc ms (fBox T) := by
  intro Φ av g K hT0 p e hl c1 c2 s m args below hfr happ hP hcond
  obtain ⟨a, kx, pic, ha, hT⟩ := hT0
  obtain ⟨rfl, hW, hok⟩ := hP
  obtain ⟨g2, q1, q2, q3, q4⟩ := zok_open hok ha
  obtain ⟨n, o, r1, r2, r3, r4⟩ := h (Φ := (g, a) :: Φ) av g2 _ (hT g2 q1 q2) p e hl c1 c2 s m av.toArray below hfr happ ⟨rfl, hW, ⟨q3, q4.1⟩, q4.2⟩ trivial
  refine ⟨n, o, r1, r2, r3, ?_⟩
  rcases r4 with ⟨⟨v, g3, e1, ⟨pic', w1, w2, w4⟩, ok', sz⟩, hend⟩ | ⟨q, e1, E, ce, L, ⟨g3, ⟨pic', w1, w2, w4⟩, ok', sz⟩, hrest⟩
  · exact Or.inl ⟨⟨v, _, e1, w4, zok_foc ok' w1 w2, sz⟩, hend⟩
  · exact Or.inr ⟨q, e1, E, ce, L, ⟨_, w4, zok_foc ok' w1 w2, sz⟩, hrest⟩
/-! IN A WALK: a box is looked into, is made -/
section
variable {l : Launch} {s0 : State} {own nm : String} {cc : ByteArray} {nL : Nat} {ret : Option FieldType} {hh : List ExceptionTableEntry} {dp : Nat} {K : Res → Hp → Prop} {Z : ZT} {X : ZX} {pc q : Nat} {ls : List (Option Value)} {rest st : List Value} {g : Hp} {k n a : Nat}
def zKf (K : Res → Hp → Prop) (g : Hp) (a kx : Nat) : Res → Hp → Prop := fun r g3 => ∃ pic' : Hp → Nat → Prop, pic' g3 a ∧ (∃ w, g3 a = some w) ∧ K r (zup g a (zbx kx pic'))
/-- only the box's own cells are looked at, till it is closed -/
theorem z_focus (G : Good l s0 own nm cc nL ret hh dp K Z X) {kx : Nat} {pic : Hp → Nat → Prop} (ha : g a = some (zbx kx pic))
    (kk : ∀ (g2 : Hp) (Z1 : ZT) (X1 : ZX), pic g2 a → (∃ w, g2 a = some w) → Good l s0 own nm cc nL ret hh dp (zKf K g a kx) Z1 X1 → (∀ (pic' : Hp → Nat → Prop) {pc : Nat} {ls : List (Option Value)} {st : List Value} {g3 : Hp} {k n : Nat}, pic' g3 a → (∃ w, g3 a = some w) → Z pc ls st (zup g a (zbx kx pic')) k n → Z1 pc ls st g3 k n) →
      (∀ (pic' : Hp → Nat → Prop) {pc : Nat} {ls : List (Option Value)} {E : String} {g3 : Hp} {k n : Nat}, pic' g3 a → (∃ w, g3 a = some w) → X pc ls E (zup g a (zbx kx pic')) k n → X1 pc ls E g3 k n) → Z1 pc ls st g2 k n) : Z pc ls st g k n := by
  obtain ⟨Φ, p, e, s, m, args, below, meth, c, mc, ms, Q, hX, hMQ, rfl, rfl⟩ := G
  intro H locs cells slots lsA hl0 hg hS hc hs
  obtain ⟨g2, q1, q2, q3, q4⟩ := zok_open hg ha
  refine kk g2 (zJ l s0 ((g, a) :: Φ) p e (zR dp mc ms) s m args below meth c Q) (zJX l s0 ((g, a) :: Φ) p e (zR dp mc ms) s m args below meth c Q) q1 q2 ⟨_, p, e, s, m, args, below, meth, c, mc, ms, Q, hX, fun t ht => hMQ t ?_, rfl, rfl⟩ ?_ ?_ H locs cells slots lsA hl0 ⟨⟨q3, q4.1⟩, q4.2⟩ hS hc hs
  · obtain ⟨o, s1, s2, ⟨⟨v, g3, e1, ⟨pic', w1, w2, w4⟩, ok', sz⟩, hend⟩ | ⟨q, e1, E, ce, L, ⟨g3, ⟨pic', w1, w2, w4⟩, ok', sz⟩, hrest⟩⟩ := ht
    · exact ⟨o, s1, s2, Or.inl ⟨⟨v, _, e1, w4, zok_foc ok' w1 w2, sz⟩, hend⟩⟩
    · exact ⟨o, s1, s2, Or.inr ⟨q, e1, E, ce, L, ⟨_, w4, zok_foc ok' w1 w2, sz⟩, hrest⟩⟩
  · intro pic' pc ls st g3 k n h1 h2 kz H locs cells slots lsA hl0 hg hS hc hs
    exact kz H locs cells slots lsA hl0 (zok_foc hg h1 h2) hS hc hs
  · intro pic' pc ls E g3 k n h1 h2 kz H locs cells slots lsA rest q ce hl0 hg hS hc hs
    exact kz H locs cells slots lsA rest q ce hl0 (zok_foc hg h1 h2) hS hc hs
theorem z_wrap (G : Good l s0 own nm cc nL ret hh dp K Z X) {g0 g2 : Hp} {w : AO} (kx : Nat) (pic : Hp → Nat → Prop) (hs : ∀ q v, zov g0 a g2 q = some v → g q = some v) (hp : pic g2 a) (hw : g2 a = some w) (dj : zdj g0 a g2) (kk : Z pc ls st (zup g0 a (zbx kx pic)) k n) : Z pc ls st g k n := by
  obtain ⟨Φ, p, e, s, m, args, below, meth, c, mc, ms, Q, hX, hMQ, rfl, rfl⟩ := G
  intro H locs cells slots lsA hl0 hg hS hc hs1
  exact kk H locs cells slots lsA hl0 (zok_wrap hg hs hp hw dj) hS hc hs1
def zon1 (a : Nat) (c : AO) : Hp := zup zemp a c
def zon2 (a : Nat) (c : AO) (e : Nat) (d : AO) : Hp := zup (zup zemp e d) a c
theorem on1_a {a : Nat} {c : AO} : zon1 a c a = some c := zup_s _ _ _
theorem on2_a {a e : Nat} {c d : AO} : zon2 a c e d a = some c := zup_s _ _ _
theorem on2_e {a e : Nat} {c d : AO} (h : e ≠ a) : zon2 a c e d e = some d := (zup_n _ _ h).trans (zup_s _ _ _)
theorem on2_n {a e q : Nat} {c d : AO} (h : q ≠ a) (h2 : q ≠ e) : zon2 a c e d q = none := (zup_n _ _ h).trans (zup_n _ _ h2)
/-- one cell becomes a box -/
theorem z_wrap1 (G : Good l s0 own nm cc nL ret hh dp K Z X) {c : AO} (kx : Nat) (pic : Hp → Nat → Prop) (hp : pic (zon1 a c) a) (kk : Z pc ls st (zup g a (zbx kx pic)) k n) : Z pc ls st (zup g a c) k n := by
  refine z_wrap G kx pic (fun q v hv => ?_) hp on1_a (fun q hq hn => ?_) kk
  · by_cases e : q = a
    · subst e
      rw [zov_in on1_a] at hv
      rw [zup_s]
      exact hv
    · rw [zov_out (zup_n _ _ e) e] at hv
      rw [zup_n _ _ e]
      exact hv
  · exact absurd (zup_n _ _ hq) hn
/-- an object with a cell of its own becomes a box -/
theorem z_wrap2 (G : Good l s0 own nm cc nL ret hh dp K Z X) {c d : AO} {e : Nat} {g0 : Hp} (kx : Nat) (pic : Hp → Nat → Prop) (ha : g a = some c) (he : g e = some d) (hea : e ≠ a) (h0 : g0 e = none) (ho : ∀ q v, q ≠ a → q ≠ e → g0 q = some v → g q = some v) (hp : pic (zon2 a c e d) a) (kk : Z pc ls st (zup g0 a (zbx kx pic)) k n) : Z pc ls st g k n := by
  refine z_wrap G kx pic (fun q v hv => ?_) hp on2_a (fun q hq hn => ?_) kk
  · by_cases e1 : q = a
    · subst e1
      rw [zov_in on2_a] at hv
      rw [ha]
      exact hv
    · by_cases e2 : q = e
      · subst e2
        rw [zov_in (on2_e hea)] at hv
        rw [he]
        exact hv
      · rw [zov_out (on2_n e1 e2) e1] at hv
        exact ho q v e1 e2 hv
  · by_cases e2 : q = e
    · subst e2
      exact h0
    · exact absurd (on2_n hq e2) hn
end
/-! CLOSING AGAIN: what a call over an opened box leaves -/
theorem zov_upo {g g2 : Hp} {a q : Nat} {v : AO} (hq : q ≠ a) (h2 : g2 q = none) : zup (zov g a g2) q v = zov (zup g q v) a g2 := by
  funext x
  by_cases e : x = q
  · subst e
    rw [zup_s, zov_out h2 hq, zup_s]
  · rw [zup_n _ _ e]
    cases hx : g2 x with
    | some w => rw [zov_in hx, zov_in hx]
    | none =>
      by_cases ea : x = a
      · unfold zov
        rw [hx]
        show (if x = a then none else g x) = (if x = a then none else zup g q v x)
        rw [if_pos ea, if_pos ea]
      · rw [zov_out hx ea, zov_out hx ea, zup_n _ _ e]
theorem zdj_no {g g2 : Hp} {a q : Nat} {v : AO} (dj : zdj g a g2) (hq : q ≠ a) (hg : g q = some v) : g2 q = none := by
  cases h : g2 q with
  | none => rfl
  | some w =>
    have := dj q hq (by rw [h]; exact fun z => by cases z)
    rw [this] at hg
    cases hg
/-- what stands outside the opened box -/
theorem zov_o {g g2 : Hp} {a q : Nat} {v : AO} (dj : zdj g a g2) (hq : q ≠ a) (hg : g q = some v) : zov g a g2 q = some v := (zov_out (zdj_no dj hq hg) hq).trans hg
def tCl (g' : Hp) (a kx : Nat) (k : Hp → Prop) : Prop := ∃ (gg g3 : Hp) (w : AO) (pic' : Hp → Nat → Prop), (∀ q v, zov gg a g3 q = some v → g' q = some v) ∧ g3 a = some w ∧ pic' g3 a ∧ zdj gg a g3 ∧ k (zup gg a (zbx kx pic'))
theorem tCl_0 {g g2 : Hp} {a kx : Nat} {pic : Hp → Nat → Prop} {k : Hp → Prop} (ha : g a = some (zbx kx pic)) (hp : pic g2 a) (hw : ∃ w, g2 a = some w) (dj : zdj g a g2) (hk : k g) : tCl (zov g a g2) a kx k := by
  obtain ⟨w, hw⟩ := hw
  exact ⟨g, g2, w, pic, fun q v h => h, hw, hp, dj, by rw [zup_id ha]; exact hk⟩
/-- a cell outside has changed -/
theorem tCl_o {g g2 : Hp} {a kx x : Nat} {c v : AO} {pic : Hp → Nat → Prop} {k : Hp → Prop} (ha : g a = some (zbx kx pic)) (hp : pic g2 a) (hw : ∃ w, g2 a = some w) (dj : zdj g a g2) (hx : x ≠ a) (hgx : g x = some v) (hk : k (zup g x c)) : tCl (zup (zov g a g2) x c) a kx k := by
  obtain ⟨w, hw⟩ := hw
  refine ⟨zup g x c, g2, w, pic, fun q v h => by rw [zov_upo hx (zdj_no dj hx hgx)]; exact h, hw, hp, fun q hq hn => ?_, ?_⟩
  · have hqx : q ≠ x := fun e => hn (by rw [e]; exact zdj_no dj hx hgx)
    rw [zup_n _ _ hqx]
    exact dj q hq hn
  · rw [zup_id ((zup_n _ _ (Ne.symm hx)).trans ha)]
    exact hk
/-- a new cell has come -/
theorem tCl_n {g g2 : Hp} {a kx x : Nat} {c : AO} {pic : Hp → Nat → Prop} {k : Hp → Prop} (ha : g a = some (zbx kx pic)) (hp : pic g2 a) (hw : ∃ w, g2 a = some w) (dj : zdj g a g2) (hx : zov g a g2 x = none) (hk : g x = none → x ≠ a → k (zup g x c)) : tCl (zup (zov g a g2) x c) a kx k := by
  obtain ⟨w, hw⟩ := hw
  have hxa : x ≠ a := fun e => by rw [e, zov_in hw] at hx; cases hx
  obtain ⟨h1, h2⟩ := zov_none hx
  refine ⟨zup g x c, g2, w, pic, fun q v h => by rw [zov_upo hxa h1]; exact h, hw, hp, fun q hq hn => ?_, ?_⟩
  · have hqx : q ≠ x := fun e => hn (by rw [e]; exact h1)
    rw [zup_n _ _ hqx]
    exact dj q hq hn
  · rw [zup_id ((zup_n _ _ (Ne.symm hxa)).trans ha)]
    exact hk (h2 hxa) hxa
/-- the box holds two cells now -/
theorem tCl_2 {g h : Hp} {a kx e : Nat} {c d : AO} {g2 : Hp} {k : Hp → Prop} (pic' : Hp → Nat → Prop) (dj : zdj g a g2) (h1 : h a = some c) (h2 : h e = some d) (hea : e ≠ a) (hge : g e = none) (fr : ∀ q, q ≠ a → q ≠ e → h q = zov g a g2 q) (hp : pic' (zon2 a c e d) a) (hk : k (zup g a (zbx kx pic'))) : tCl h a kx k := by
  refine ⟨g, zon2 a c e d, c, pic', fun q v hv => ?_, on2_a, hp, fun q hq hn => ?_, hk⟩
  · by_cases e1 : q = a
    · subst e1
      rw [zov_in on2_a] at hv
      exact h1.trans hv
    · by_cases e2 : q = e
      · subst e2
        rw [zov_in (on2_e hea)] at hv
        exact h2.trans hv
      · rw [zov_out (on2_n e1 e2) e1] at hv
        exact (fr q e1 e2).trans (zov_o dj e1 hv)
  · by_cases e2 : q = e
    · subst e2
      exact hge
    · exact absurd (on2_n hq e2) hn
/-- either contract -/
theorem Ctr.or {l : Launch} {s0 : State} {y : MethodName} {ws : List Cond} {d mc ms : Nat} {T T' : List Value → Hp → (Res → Hp → Prop) → Prop} (h : Ctr l s0 y ws d mc ms T) (h' : Ctr l s0 y ws d mc ms T') : Ctr l s0 y ws d mc ms (fun av g K => T av g K ∨ T' av g K) := by
  intro Φ av g K hT
  rcases hT with hT | hT
  · exact h av g K hT
  · exact h' av g K hT
def upN (f : Nat → Nat) (n x : Nat) : Nat → Nat := fun i => if i = n then x else f i
theorem upN_s {f : Nat → Nat} {n x : Nat} : upN f n x n = x := if_pos rfl
theorem upN_n {f : Nat → Nat} {n x i : Nat} (h : i ≠ n) : upN f n x i = f i := if_neg h
