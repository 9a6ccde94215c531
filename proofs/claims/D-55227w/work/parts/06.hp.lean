/-! THE ABSTRACT HEAP: raw cells, and boxes that own raw cells; no machine here -/
abbrev Rw : Type := (FieldType × vp_A) ⊕ (Nat × List Value)
abbrev Rh : Type := Nat → Option Rw
abbrev AO : Type := Rw ⊕ (Nat × (Rh → Nat → Prop))
abbrev Hp : Type := Nat → Option AO
abbrev Res : Type := Option Value ⊕ String
def zrep (v : AO) (a : Nat) (r : Rh) (F : Nat → Prop) : Prop := match v with
  | .inl e => r a = some e ∧ F a
  | .inr P => ∃ r2 : Rh, (∀ q e, r2 q = some e → r q = some e ∧ F q) ∧ (∃ e, r2 a = some e) ∧ P.2 r2 a
def zsat (r : Rh) (g : Hp) : Prop := ∃ own : Nat → Nat, ∀ a v, g a = some v → zrep v a r (fun q => own q = a)
/-- a box: the cells that it owns are a heap of their own, of which pic speaks -/
def zbx (kx : Nat) (pic : Hp → Nat → Prop) : AO := .inr (kx, fun r a => ∃ g2 : Hp, zsat r g2 ∧ (∃ w, g2 a = some w) ∧ pic g2 a)
def zup (g : Hp) (a : Nat) (v : AO) : Hp := fun q => if q = a then some v else g q
def zov (g : Hp) (a : Nat) (g2 : Hp) : Hp := fun q => match g2 q with
  | some w => some w
  | none => if q = a then none else g q
def zdj (g : Hp) (a : Nat) (g2 : Hp) : Prop := ∀ q, q ≠ a → g2 q ≠ none → g q = none
def rup (r : Rh) (a : Nat) (e : Rw) : Rh := fun q => if q = a then some e else r q
theorem zup_s (g : Hp) (a : Nat) (v : AO) : zup g a v a = some v := if_pos rfl
theorem zup_n (g : Hp) (v : AO) {a q : Nat} (h : q ≠ a) : zup g a v q = g q := if_neg h
theorem zup_id {g : Hp} {a : Nat} {v : AO} (h : g a = some v) : zup g a v = g := by
  funext q
  unfold zup
  by_cases e : q = a
  · rw [if_pos e, e, h]
  · rw [if_neg e]
theorem zup_zup (g : Hp) (a : Nat) (v w : AO) : zup (zup g a v) a w = zup g a w := by
  funext q
  unfold zup
  by_cases e : q = a
  · rw [if_pos e, if_pos e]
  · rw [if_neg e, if_neg e, if_neg e]
theorem zup_comm (g : Hp) {a b : Nat} (v w : AO) (h : a ≠ b) : zup (zup g a v) b w = zup (zup g b w) a v := by
  funext q
  unfold zup
  by_cases e : q = a
  · by_cases e2 : q = b
    · exact absurd (e.symm.trans e2) h
    · rw [if_neg e2, if_pos e, if_pos e]
  · by_cases e2 : q = b
    · rw [if_pos e2, if_neg e, if_pos e2]
    · rw [if_neg e2, if_neg e, if_neg e, if_neg e2]
theorem zov_in {g : Hp} {a : Nat} {g2 : Hp} {q : Nat} {w : AO} (h : g2 q = some w) : zov g a g2 q = some w := by
  unfold zov
  rw [h]
theorem zov_out {g : Hp} {a : Nat} {g2 : Hp} {q : Nat} (h : g2 q = none) (hq : q ≠ a) : zov g a g2 q = g q := by
  unfold zov
  rw [h]
  exact if_neg hq
/-- a cell of the opened box is written, or a new one made -/
theorem zov_up (g : Hp) (a : Nat) (g2 : Hp) (q : Nat) (v : AO) : zup (zov g a g2) q v = zov g a (zup g2 q v) := by
  funext x
  by_cases e : x = q
  · subst e
    rw [zup_s, zov_in (zup_s g2 x v)]
  · rw [zup_n _ _ e]
    unfold zov
    rw [zup_n _ _ e]
theorem zdj_up {g : Hp} {a : Nat} {g2 : Hp} {q : Nat} {v : AO} (h : zdj g a g2) (hq : q = a ∨ g2 q ≠ none ∨ zov g a g2 q = none) : zdj g a (zup g2 q v) := by
  intro x hx hn
  by_cases e : x = q
  · subst e
    rcases hq with h1 | h1 | h1
    · exact absurd h1 hx
    · exact h x hx h1
    · cases h2 : g2 x with
      | none => rw [zov_out h2 hx] at h1; exact h1
      | some w => exact h x hx (by rw [h2]; exact fun z => by cases z)
  · rw [zup_n _ _ e] at hn
    exact h x hx hn
/-- the box's heap is the whole overlay where the outer heap is -/
theorem zov_none {g : Hp} {a : Nat} {g2 : Hp} {q : Nat} (h : zov g a g2 q = none) : g2 q = none ∧ (q ≠ a → g q = none) := by
  cases h2 : g2 q with
  | none => exact ⟨rfl, fun hq => by rw [zov_out h2 hq] at h; exact h⟩
  | some w => rw [zov_in h2] at h; cases h
theorem zrep_has {v : AO} {a : Nat} {r : Rh} {F : Nat → Prop} (h : zrep v a r F) : (∃ e, r a = some e) ∧ F a := by
  cases v with
  | inl e => exact ⟨⟨e, h.1⟩, h.2⟩
  | inr P =>
    obtain ⟨r2, h1, ⟨e, h2⟩, -⟩ := h
    exact ⟨⟨e, (h1 a e h2).1⟩, (h1 a e h2).2⟩
theorem zrep_mono {v : AO} {a : Nat} {r r' : Rh} {F F' : Nat → Prop} (h : zrep v a r F) (hm : ∀ q e, r q = some e → F q → r' q = some e ∧ F' q) : zrep v a r' F' := by
  cases v with
  | inl e => exact hm a e h.1 h.2
  | inr P =>
    obtain ⟨r2, h1, h2, h3⟩ := h
    exact ⟨r2, fun q e hq => hm q e (h1 q e hq).1 (h1 q e hq).2, h2, h3⟩
theorem zopen {r : Rh} {g : Hp} {a : Nat} {kx : Nat} {pic : Hp → Nat → Prop} (h : zsat r g) (ha : g a = some (zbx kx pic)) : ∃ g2 : Hp, pic g2 a ∧ (∃ w, g2 a = some w) ∧ zdj g a g2 ∧ zsat r (zov g a g2) := by
  obtain ⟨own, h⟩ := h
  obtain ⟨r2, hr, -, g2, ⟨own2, h2⟩, hw, hp⟩ := h a _ ha
  have key : ∀ b w, g2 b = some w → ∃ e, r2 b = some e ∧ own2 b = b := by
    intro b w hb
    obtain ⟨⟨e, he⟩, hF⟩ := zrep_has (h2 b w hb)
    exact ⟨e, he, hF⟩
  have dj : zdj g a g2 := by
    intro q hq hn
    cases hg : g q with
    | none => rfl
    | some v =>
      obtain ⟨-, hF⟩ := zrep_has (h q v hg)
      cases hw2 : g2 q with
      | none => exact absurd hw2 hn
      | some w =>
        obtain ⟨e, he, -⟩ := key q w hw2
        have h5 : own q = a := (hr q e he).2
        have h6 : own q = q := hF
        exact absurd (h6.symm.trans h5) hq
  refine ⟨g2, hp, hw, dj, fun q => match r2 q with | none => own q | some _ => own2 q, fun b v hb => ?_⟩
  cases hw2 : g2 b with
  | some w =>
    rw [zov_in hw2] at hb
    cases hb
    refine zrep_mono (h2 b v hw2) (fun q e hq hF => ⟨(hr q e hq).1, ?_⟩)
    show (match r2 q with | none => own q | some _ => own2 q) = b
    rw [hq]
    exact hF
  | none =>
    by_cases hba : b = a
    · subst hba
      obtain ⟨w, hw⟩ := hw
      rw [hw] at hw2
      cases hw2
    · rw [zov_out hw2 hba] at hb
      refine zrep_mono (h b v hb) (fun q e hq hF => ⟨hq, ?_⟩)
      show (match r2 q with | none => own q | some _ => own2 q) = b
      cases hx : r2 q with
      | none => exact hF
      | some e' =>
        have h5 : own q = a := (hr q e' hx).2
        have h6 : own q = b := hF
        exact absurd (h6.symm.trans h5) hba
theorem zclose {r : Rh} {g : Hp} {a : Nat} {g2 : Hp} {w : AO} {kx : Nat} {pic : Hp → Nat → Prop} (h : zsat r (zov g a g2)) (hp : pic g2 a) (hw : g2 a = some w) (dj : zdj g a g2) : zsat r (zup g a (zbx kx pic)) := by
  obtain ⟨own, h⟩ := h
  refine ⟨fun q => match g2 (own q) with | some _ => a | none => own q, fun b v hb => ?_⟩
  by_cases hba : b = a
  · subst hba
    rw [zup_s] at hb
    cases hb
    refine ⟨fun q => match g2 (own q) with | some _ => r q | none => none, fun q e hq => ?_, ?_, g2, ⟨own, fun b' v' hb' => ?_⟩, ⟨w, hw⟩, hp⟩
    · dsimp only at hq ⊢
      cases hx : g2 (own q) with
      | none => rw [hx] at hq; cases hq
      | some x => rw [hx] at hq; exact ⟨hq, rfl⟩
    · obtain ⟨⟨e, he⟩, hF⟩ := zrep_has (h b w (zov_in hw))
      have h6 : own b = b := hF
      refine ⟨e, ?_⟩
      show (match g2 (own b) with | some _ => r b | none => none) = some e
      rw [h6, hw]
      exact he
    · refine zrep_mono (h b' v' (zov_in hb')) (fun q e hq hF => ⟨?_, hF⟩)
      have h6 : own q = b' := hF
      show (match g2 (own q) with | some _ => r q | none => none) = some e
      rw [h6, hb']
      exact hq
  · rw [zup_n _ _ hba] at hb
    have h2 : g2 b = none := by
      cases hx : g2 b with
      | none => rfl
      | some x =>
        have := dj b hba (by rw [hx]; exact fun z => by cases z)
        rw [this] at hb
        cases hb
    refine zrep_mono (h b v (by rw [zov_out h2 hba]; exact hb)) (fun q e hq hF => ⟨hq, ?_⟩)
    have h6 : own q = b := hF
    show (match g2 (own q) with | some _ => a | none => own q) = b
    rw [h6, h2]
theorem zsat_put {r : Rh} {g : Hp} {a : Nat} {e e' : Rw} (h : zsat r g) (ha : g a = some (.inl e)) : zsat (rup r a e') (zup g a (.inl e')) := by
  obtain ⟨own, h⟩ := h
  have h0 : own a = a := (h a _ ha).2
  refine ⟨own, fun b v hb => ?_⟩
  by_cases hba : b = a
  · subst hba
    rw [zup_s] at hb
    cases hb
    exact ⟨if_pos rfl, h0⟩
  · rw [zup_n _ _ hba] at hb
    refine zrep_mono (h b v hb) (fun q e hq hF => ⟨?_, hF⟩)
    have h6 : own q = b := hF
    have : q ≠ a := fun z => hba (by rw [← h6, z, h0])
    exact (if_neg this).trans hq
theorem zsat_new {r : Rh} {g : Hp} {a : Nat} {e : Rw} (h : zsat r g) (ha : r a = none) : g a = none ∧ zsat (rup r a e) (zup g a (.inl e)) := by
  obtain ⟨own, h⟩ := h
  have h0 : g a = none := by
    cases hg : g a with
    | none => rfl
    | some v =>
      obtain ⟨⟨e, he⟩, -⟩ := zrep_has (h a v hg)
      rw [ha] at he
      cases he
  refine ⟨h0, fun q => if q = a then a else own q, fun b v hb => ?_⟩
  by_cases hba : b = a
  · subst hba
    rw [zup_s] at hb
    cases hb
    exact ⟨if_pos rfl, if_pos rfl⟩
  · rw [zup_n _ _ hba] at hb
    refine zrep_mono (h b v hb) (fun q e hq hF => ?_)
    have : q ≠ a := fun z => by rw [z, ha] at hq; cases hq
    exact ⟨(if_neg this).trans hq, (if_neg this).trans hF⟩
theorem zsat_raw {r : Rh} {g : Hp} {a : Nat} {e : Rw} (h : zsat r g) (ha : g a = some (.inl e)) : r a = some e := by
  obtain ⟨own, h⟩ := h
  exact (h a _ ha).1
/-- fewer cells -/
theorem zsat_less {r : Rh} {g g' : Hp} (h : zsat r g) (hg : ∀ q v, g' q = some v → g q = some v) : zsat r g' := by
  obtain ⟨own, h⟩ := h
  exact ⟨own, fun a v ha => h a v (hg a v ha)⟩
/-- the cell at the box's own address is an object of class ci, however deep -/
def zisK (v : AO) (ci : Nat) : Prop := ∀ (b : Nat) (r : Rh) (F : Nat → Prop), zrep v b r F → ∃ fs, r b = some (.inr (ci, fs))
theorem zisK_raw (ci : Nat) (fs : List Value) : zisK (.inl (.inr (ci, fs))) ci := fun _ _ _ h => ⟨fs, h.1⟩
theorem zisK_box {kx : Nat} {pic : Hp → Nat → Prop} {ci : Nat} (h : ∀ g2 a, pic g2 a → ∀ w, g2 a = some w → zisK w ci) : zisK (zbx kx pic) ci := by
  intro b r F hr
  obtain ⟨r2, h1, -, g2, ⟨own2, h2⟩, ⟨w, hw⟩, hp⟩ := hr
  obtain ⟨fs, hf⟩ := h g2 b hp w hw b r2 _ (h2 b w hw)
  exact ⟨fs, (h1 b _ hf).1⟩
theorem zov_eq {g : Hp} {a : Nat} {g2 g3 : Hp} {q : Nat} (h : g2 q = g3 q) : zov g a g2 q = zov g a g3 q := by
  unfold zov
  rw [h]
theorem zov_swap {gg g g2 : Hp} {a b : Nat} (h : g2 a ≠ none) : zov (zov gg b g) a g2 = zov gg b (zov g a g2) := by
  funext q
  cases h2 : g2 q with
  | some w => rw [zov_in h2, zov_in (zov_in h2)]
  | none =>
    have hq : q ≠ a := fun e => h (by rw [← e, h2])
    rw [zov_out h2 hq, zov_eq (g3 := g) (zov_out h2 hq)]
/-! FRAMES: the whole heap out of the part that is looked at -/
abbrev Fr : Type := List (Hp × Nat)
def zfr : Fr → Hp → Hp
  | [], g => g
  | x :: Φ, g => zfr Φ (zov x.1 x.2 g)
def zfd : Fr → Hp → Prop
  | [], _ => True
  | x :: Φ, g => zdj x.1 x.2 g ∧ zfd Φ (zov x.1 x.2 g)
theorem zfr_in : ∀ (Φ : Fr) {g : Hp} {q : Nat} {w : AO}, g q = some w → zfr Φ g q = some w
  | [], _, _, _, h => h
  | _ :: Φ, _, _, _, h => zfr_in Φ (zov_in h)
theorem zfr_none (Φ : Fr) {g : Hp} {q : Nat} (h : zfr Φ g q = none) : g q = none := by
  cases hg : g q with
  | none => rfl
  | some w => rw [zfr_in Φ hg] at h; cases h
theorem zfr_up : ∀ (Φ : Fr) (g : Hp) (q : Nat) (v : AO), zup (zfr Φ g) q v = zfr Φ (zup g q v)
  | [], _, _, _ => rfl
  | x :: Φ, g, q, v => by
    show zup (zfr Φ (zov x.1 x.2 g)) q v = zfr Φ (zov x.1 x.2 (zup g q v))
    rw [zfr_up Φ, zov_up]
theorem zov_has {gg g g' : Hp} {b q : Nat} (h : g' q ≠ none → g q ≠ none) (hn : zov gg b g' q ≠ none) : zov gg b g q ≠ none := by
  cases hg : g q with
  | some w => rw [zov_in hg]; exact fun z => by cases z
  | none =>
    have h2 : g' q = none := by
      cases hx : g' q with
      | none => rfl
      | some w => exact absurd hg (h (by rw [hx]; exact fun z => by cases z))
    rw [zov_eq (g3 := g') (hg.trans h2.symm)]
    exact hn
theorem zfd_dom : ∀ (Φ : Fr) {g g' : Hp}, (∀ q, g' q ≠ none → g q ≠ none) → zfd Φ g → zfd Φ g'
  | [], _, _, _, _ => trivial
  | _ :: Φ, _, _, h, hd => ⟨fun q hq hn => hd.1 q hq (h q hn), zfd_dom Φ (fun q hn => zov_has (h q) hn) hd.2⟩
theorem zfd_up : ∀ (Φ : Fr) {g : Hp} {q : Nat} {v : AO}, zfd Φ g → (g q ≠ none ∨ zfr Φ g q = none) → zfd Φ (zup g q v)
  | [], _, _, _, _, _ => trivial
  | x :: Φ, g, q, v, hd, h => by
    refine ⟨zdj_up hd.1 (Or.inr ?_), ?_⟩
    · rcases h with h | h
      · exact Or.inl h
      · exact Or.inr (zfr_none Φ h)
    · rw [← zov_up]
      refine zfd_up Φ hd.2 ?_
      rcases h with h | h
      · refine Or.inl ?_
        cases hg : g q with
        | none => exact absurd hg h
        | some w => rw [zov_in hg]; exact fun z => by cases z
      · exact Or.inr h
theorem zfr_ov : ∀ (Φ : Fr) {g g2 : Hp} {a : Nat}, g2 a ≠ none → zov (zfr Φ g) a g2 = zfr Φ (zov g a g2)
  | [], _, _, _, _ => rfl
  | x :: Φ, g, g2, a, h => by
    show zov (zfr Φ (zov x.1 x.2 g)) a g2 = zfr Φ (zov x.1 x.2 (zov g a g2))
    rw [zfr_ov Φ h, zov_swap h]
theorem zfd_open : ∀ (Φ : Fr) {g g2 : Hp} {a : Nat}, zfd Φ g → g a ≠ none → g2 a ≠ none → zdj (zfr Φ g) a g2 → zfd Φ (zov g a g2)
  | [], _, _, _, _, _, _, _ => trivial
  | x :: Φ, g, g2, a, hd, ha, h2, dj => by
    refine ⟨fun q hq hn => ?_, ?_⟩
    · by_cases e : q = a
      · subst e
        exact hd.1 q hq ha
      · cases hx : g2 q with
        | none =>
          rw [zov_out hx e] at hn
          exact hd.1 q hq hn
        | some w =>
          have h3 : zfr Φ (zov x.1 x.2 g) q = none := dj q e (by rw [hx]; exact fun z => by cases z)
          exact (zov_none (zfr_none Φ h3)).2 hq
    · rw [← zov_swap h2]
      refine zfd_open Φ hd.2 ?_ h2 dj
      cases hg : g a with
      | none => exact absurd hg ha
      | some w => rw [zov_in hg]; exact fun z => by cases z
theorem zfr_out : ∀ (Φ : Fr) {g g3 : Hp} {q : Nat}, zfd Φ g3 → g3 q ≠ none → g q = none → zfr Φ g q = none
  | [], _, _, _, _, _, h => h
  | x :: Φ, g, g3, q, hd, h3, h => by
    have e : zov x.1 x.2 g q = none := by
      unfold zov
      rw [h]
      by_cases hq : q = x.2
      · exact if_pos hq
      · exact (if_neg hq).trans (hd.1 q hq h3)
    have h4 : zov x.1 x.2 g3 q ≠ none := by
      cases hg : g3 q with
      | none => exact absurd hg h3
      | some w => rw [zov_in hg]; exact fun z => by cases z
    exact zfr_out Φ hd.2 h4 e
theorem zfr_less : ∀ (Φ : Fr) {g g' : Hp}, (∀ q v, g' q = some v → g q = some v) → zfd Φ g → ∀ q v, zfr Φ g' q = some v → zfr Φ g q = some v
  | [], _, _, h, _ => h
  | x :: Φ, g, g', h, hd => by
    refine zfr_less Φ (fun q v hv => ?_) hd.2
    cases hx : g' q with
    | some w =>
      rw [zov_in hx] at hv
      cases hv
      exact zov_in (h q _ hx)
    | none =>
      unfold zov at hv
      rw [hx] at hv
      by_cases hq : q = x.2
      · have hv : (if q = x.2 then none else x.1 q) = some v := hv
        rw [if_pos hq] at hv
        cases hv
      · have hv : (if q = x.2 then none else x.1 q) = some v := hv
        rw [if_neg hq] at hv
        cases hg : g q with
        | none => rw [zov_out hg hq]; exact hv
        | some w =>
          have := hd.1 q hq (by rw [hg]; exact fun z => by cases z)
          rw [this] at hv
          cases hv
def zemp : Hp := fun _ => none
theorem zov_emp {g : Hp} {a q : Nat} (h : q ≠ a) : zov g a zemp q = g q := zov_out rfl h
