/-! WHAT IS THROWN ANEW -/
/-- a word of a conjunction by its way: false left, true right -/
def zget : List Bool → Cond → Option Cond
  | [], c => some c
  | false :: p, .and a _ => zget p a
  | true :: p, .and _ b => zget p b
  | _, _ => none
theorem zget_ok {A : Array Value} {s : State} {w : Cond} : ∀ (p : List Bool) {c : Cond}, zget p c = some w → c.before A s = true → w.before A s = true
  | [], c, h, hc => by
    cases h
    exact hc
  | x :: p, c, h, hc => by
    cases c with
    | and a b =>
      rw [Cond.before_and, Bool.and_eq_true] at hc
      cases x with
      | false => exact zget_ok p h hc.1
      | true => exact zget_ok p h hc.2
    | _ => cases x <;> cases h
theorem st_U {l : Launch} {s0 : State} (h0 : St0 l s0) : vx_Zq Bundle.tN "UNASSIGNED_STACK" Bundle.steD (zA s0) s0 s0.heap := by
  obtain ⟨-, b0, ht, hn⟩ := h0
  exact vx_Zqof (ht _ q434) (ht _ (lw_all_tbl q131)) (zget_ok [true, false, false, false, false, false, false, true, false, true, true] rfl hn) (fun a ha hA => absurd hA (Nat.not_le.mpr ha))
theorem st_N {l : Launch} {s0 : State} (h0 : St0 l s0) : vx_Zq Bundle.tN "SUPPRESSED_SENTINEL" Bundle.listD (zA s0) s0 s0.heap := by
  obtain ⟨-, b0, ht, hn⟩ := h0
  exact vx_Zqof (ht _ q436) (ht _ (lw_all_tbl q131)) (zget_ok [true, false, false, false, false, false, false, true, true, false] rfl hn) (fun a ha hA => absurd hA (Nat.not_le.mpr ha))
/-- a word that holds wherever the method is entered -/
def zmv (w : Cond) : Prop := w ∈ lw_all ∨ (w ∈ lw_tbl ∧ ((∃ x, w = .declares x) ∨ ∃ C D, w = .castable C D))
theorem zmv_ok {l : Launch} {s0 s : State} {args : Array Value} {w : Cond} (h0 : St0 l s0) (hW : s0.WarmedH s.vm) (hts : ∀ w ∈ lw_all, w.before args s = true) (h : zmv w) : w.before args s = true := by
  rcases h with h | ⟨h, ⟨x, rfl⟩ | ⟨C, D, rfl⟩⟩
  · exact hts w h
  · exact va_Nw.use rfl (va_Nw.warmD hW (zword (s := s) h0 h rfl))
  · exact va_Nw.use rfl (va_Nw.warmC hW (zword (s := s) h0 h rfl))
theorem fl_no {l : Launch} {s0 : State} (h0 : St0 l s0) : l.stackTraces = false := by
  unfold Launch.stackTraces
  rw [h0.1]
  decide
section
variable {l : Launch} {s0 : State} {own nm : String} {cc : ByteArray} {nL : Nat} {ret : Option FieldType} {hh : List ExceptionTableEntry} {dp : Nat} {K : Res → Hp → Prop} {Z : ZT} {X : ZX} {pc q : Nat} {ls : List (Option Value)} {rest st : List Value} {g : Hp} {k n a : Nat}
/-- new E; dup; invokespecial; athrow: it goes out -/
theorem z_throw0 (G : Good l s0 own nm cc nL ret hh dp K Z X) {cls : String} {names : List String} {ik ic : Nat} (hcls : Bundle.fit cls = true) (hnames : ∀ n ∈ names, Bundle.fit n = true)
    (hk : Cond.classLink own ik cls ∈ lw_all) (hini : Cond.initialized cls ∈ lw_all) (hat : ∀ w ∈ vx_at0 own ic cls names, zmv w) (hgood : ∀ w ∈ Cond.classLink own ik cls :: Cond.initialized cls :: vx_at0 own ic cls names, vx_ot w = true)
    (d0 : decode cc pc = .ok (.new ik, 3)) (d3 : decode cc (pc + 3) = .ok (.dup, 1)) (d4 : decode cc (pc + 4) = .ok (.invokespecial ic, 3)) (d7 : decode cc (pc + 7) = .ok (.athrow, 1))
    (hout : ∀ x ∈ hh, covers x (pc + 7) = false) (hfr : names.length + 3 < dp) (hlo : (rest.map fun v => v.category).sum + (13 * (names.length + 1) + 42) ≤ 64 * dp) (h1 : 1 ≤ k) (h6 : 6 ≤ n) (hK : K (.inr cls) g) : Z pc ls rest g k n := by
  obtain ⟨Φ, p, e, s, m, args, below, meth, c, mc0, ms0, Q, hX, hMQ, rfl, rfl⟩ := G
  intro H locs cells slots lsA hl0 hg hS hc1 hs
  obtain ⟨hx, hb, hml, hown, hts, hret, hlk, htab, hnm0, hW, hlow, h0⟩ := hX
  have hU := ((st_U h0).kept (H1 := s.heap) (fun a ha _ => hlow.2 a ha)).moved hW.alike
  have hN := ((st_N h0).kept (H1 := s.heap) (fun a ha _ => hlow.2 a ha)).moved hW.alike
  refine zWm hMQ (vx_throw0 (A := zA s0) (names := names) hx hb (fl_no h0) hown hcls hnames (hts _ hk) (hts _ hini) (fun w hw => zmv_ok h0 hW hts (hat w hw)) hgood hU hN hS hl0.1 d0 d3 d4 d7 (by rw [htab]; exact hout) hfr hlo (by show cells + 1 ≤ mc0; exact Nat.le_trans (Nat.add_le_add_left h1 _) hc1) (by show slots + 6 ≤ ms0; exact Nat.le_trans (Nat.add_le_add_left h6 _) hs) hlk (fun t _ hz hq => ⟨g, hK, zok_ext hg hz hq, Nat.le_trans hS.1 hz⟩) hS.2.2 (Nat.le_trans (Nat.add_le_add_left h1 _) hc1) (Nat.le_trans (Nat.add_le_add_left h6 _) hs))
end
