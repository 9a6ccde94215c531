/-! MORE MATHEMATICS OF THE ROW: sorting the bench, all that could be mended, smoking on -/
def r_bok (w : Nat → Int32) (nb : Nat) : Prop := ∀ k, k < nb → w (12 + k) = nI (bnN w k) ∧ bnN w k < 10
theorem bok_of {w : Nat → Int32} {k p : Nat} (h : w (12 + k) = nI p) (hp : p < 10) : w (12 + k) = nI (bnN w k) ∧ bnN w k < 10 := by
  have e : bnN w k = p := by unfold bnN; rw [h]; exact nI_clamp (by omega)
  rw [e]
  exact ⟨h, hp⟩
theorem bok_upd {w : Nat → Int32} {nb j p : Nat} (h : r_bok w nb) (hp : p < 10) : r_bok (upd w (12 + j) (nI p)) nb := by
  intro k hk
  by_cases e : k = j
  · subst e
    exact bok_of upd_s hp
  · exact bok_of ((upd_n (by omega)).trans (h k hk).1) (h k hk).2
def r_sin (p : Nat) : Nat → (Nat → Int32) → Nat → Int32
  | 0, w => upd w 12 (nI p)
  | k + 1, w => if r_lum w (bnN w k) ≤ r_lum w p then upd w (12 + (k + 1)) (nI p) else r_sin p k (upd w (12 + (k + 1)) (w (12 + k)))
def r_sro : Nat → Nat → (Nat → Int32) → Nat → Int32
  | 0, _, w => w
  | n + 1, i, w => r_sro n (i + 1) (r_sin (bnN w i) i w)
def o_srt (w : Nat → Int32) : Why := if w 3 = 0 then some (7, 0, 0, 0) else none
def crN (w : Nat → Int32) (p : Nat) : Nat := (pw w p 1).toNatClampNeg
def pcN (w : Nat → Int32) (p : Nat) : Nat := (r_pof w (stN w p)).toNatClampNeg
def lmN (w : Nat → Int32) (p : Nat) : Nat := (r_lum w p).toNatClampNeg
theorem sho_N {w : Nat → Int32} : ∀ n i, ¬ r_sho w n i < 0 → i + n ≤ 7 → ∃ k, r_sho w n i = nI k ∧ k ≤ 6
  | 0, i, h, _ => absurd (show (-1 : Int32) < 0 by decide) h
  | n + 1, i, h, hn => by
    unfold r_sho at h ⊢
    split
    · rename_i hc
      rw [if_pos hc] at h
      exact sho_N n (i + 1) h (by omega)
    · exact ⟨i, rfl, by omega⟩
theorem pof_N {w : Nat → Int32} {st : Nat} (h : ¬ r_pof w st < 0) : ∃ k, r_pof w st = nI k ∧ k ≤ 6 := by
  unfold r_pof at h ⊢
  split
  · exact ⟨0, rfl, by decide⟩
  · rename_i hc
    rw [if_neg hc] at h
    exact sho_N _ _ h (by omega)
theorem lum_N {w : Nat → Int32} {p cr : Nat} (h : pw w p 1 = nI cr) (hc : cr ≤ 9) : ∃ k, r_lum w p = nI k ∧ k ≤ 4 := by
  have e : (nI cr + 2) / 3 = nI ((cr + 2) / 3) := by
    rw [show (2 : Int32) = nI 2 from rfl, show (3 : Int32) = nI 3 from rfl, nI_add]
    exact pk_div (by omega) (by omega) (by omega)
  unfold r_lum
  rw [h, e]
  split
  · exact ⟨(cr + 2) / 3, by rw [show (0 : Int32) = nI 0 from rfl, nI_add]; rfl, by omega⟩
  · exact ⟨(cr + 2) / 3 + 1, by rw [show (1 : Int32) = nI 1 from rfl, nI_add], by omega⟩
theorem mdd_none {w : Nat → Int32} {p st cr nl : Nat} (h : o_mdd w p st = none) (h1 : pw w p 1 = nI cr) (hc : cr ≤ 9) (h4 : w 4 = nI nl) (hl : nl ≤ 20) : ∃ lm pc, r_lum w p = nI lm ∧ lm ≤ nl ∧ r_pof w st = nI pc ∧ pc ≤ 6 := by
  unfold o_mdd at h
  split at h
  · rename_i c1
    split at h
    · cases h
    · rename_i c2
      obtain ⟨lm, e1, e2⟩ := lum_N h1 hc
      obtain ⟨pc, e3, e4⟩ := pof_N c2
      rw [e1, h4] at c1
      exact ⟨lm, pc, e1, (nI_leI (by omega) (by omega)).mp c1, e3, e4⟩
  · cases h
def r_mnX (w : Nat → Int32) (p pc nb lm nl : Nat) : Nat → Int32 := upd (r_inc (r_inc (r_md1 (r_tkp (r_use w nl lm) pc) p pc) (49 + 5 * p + 3)) 9) 3 (nI (nb - 1))
theorem mnX_lo {w : Nat → Int32} {p pc nb lm nl j : Nat} (hc : pc ≤ 6) (h3 : j ≠ 3) (h9 : j ≠ 9) (hj : j < 42) : r_mnX w p pc nb lm nl j = r_use w nl lm j := by
  unfold r_mnX r_inc r_md1
  rw [upd_n h3, upd_n h9, upd_n (by omega), upd_n (by omega), upd_n (by omega), upd_n (by omega)]
  unfold r_tkp
  split
  · rfl
  · rw [upd_n (by omega)]
theorem mnX_hi {w : Nat → Int32} {p pc nb lm nl j : Nat} (hc : pc ≤ 6) (hl : nl ≤ 20) (hj : 49 ≤ j) : r_mnX w p pc nb lm nl j = if j = 49 + 5 * p + 3 then w j + 1 else if j = 49 + 5 * p + 2 then 0 else if j = 49 + 5 * p + 1 then 0 else if j = 49 + 5 * p + 0 then w j + nI pc else w j := by
  have hu : r_tkp (r_use w nl lm) pc j = w j := by
    unfold r_tkp
    split
    · exact use_o (by omega) (by omega) (by omega) lm
    · rw [upd_n (by omega)]
      exact use_o (by omega) (by omega) (by omega) lm
  have hu0 : pw (r_tkp (r_use w nl lm) pc) p 0 = w (49 + 5 * p + 0) := by
    unfold pw r_tkp
    split
    · exact use_o (by omega) (by omega) (by omega) lm
    · rw [upd_n (by omega)]
      exact use_o (by omega) (by omega) (by omega) lm
  unfold r_mnX r_inc r_md1
  rw [upd_n (by omega), upd_n (by omega)]
  by_cases e3 : j = 49 + 5 * p + 3
  · subst e3
    rw [upd_s, if_pos rfl, upd_n (by omega), upd_n (by omega), upd_n (by omega), hu]
  · rw [upd_n e3, if_neg e3]
    by_cases e2 : j = 49 + 5 * p + 2
    · subst e2
      rw [upd_s, if_pos rfl]
    · rw [upd_n e2, if_neg e2]
      by_cases e1 : j = 49 + 5 * p + 1
      · subst e1
        rw [upd_s, if_pos rfl]
      · rw [upd_n e1, if_neg e1]
        by_cases e0 : j = 49 + 5 * p + 0
        · subst e0
          rw [upd_s, if_pos rfl, hu0]
        · rw [upd_n e0, if_neg e0, hu]
theorem men_eq {w : Nat → Int32} {p pc nb lm nl : Nat} : r_men w p pc nb lm nl = r_del (r_mnX w p pc nb lm nl) 12 nb 0 := rfl
theorem men_hi {w : Nat → Int32} {p pc nb lm nl j : Nat} (hb : nb ≤ 10) (hj : 22 ≤ j) : r_men w p pc nb lm nl j = r_mnX w p pc nb lm nl j := by
  rw [men_eq]
  unfold r_del
  rw [if_neg (by omega), if_neg (by omega)]
theorem men_lo {w : Nat → Int32} {p pc nb lm nl j : Nat} (hj : j < 12) : r_men w p pc nb lm nl j = r_mnX w p pc nb lm nl j := by
  rw [men_eq]
  unfold r_del
  rw [if_neg (by omega), if_neg (by omega)]
theorem men_b {w : Nat → Int32} {p pc nb lm nl k : Nat} (hc : pc ≤ 6) (hb : nb ≤ 10) (hk : k < nb - 1) : r_men w p pc nb lm nl (12 + k) = w (12 + (k + 1)) := by
  rw [men_eq]
  unfold r_del
  rw [if_pos (by omega), mnX_lo hc (by omega) (by omega) (by omega)]
  exact use_o (by omega) (by omega) (by omega) lm
theorem men_4 {w : Nat → Int32} {p pc nb lm nl : Nat} (hc : pc ≤ 6) (h : w 4 = nI nl) : r_men w p pc nb lm nl 4 = nI (nl - lm) := by
  rw [men_lo (by decide), mnX_lo hc (by decide) (by decide) (by decide)]
  exact use_4 h lm
theorem men_3 {w : Nat → Int32} {p pc nb lm nl : Nat} : r_men w p pc nb lm nl 3 = nI (nb - 1) := by
  rw [men_lo (by decide)]
  exact upd_s
/-- what mending on needs -/
def r_mok (w : Nat → Int32) (nb : Nat) : Prop := r_bok w nb ∧ (∀ p, p < 10 → pw w p 0 = nI (stN w p) ∧ stN w p ≤ 12) ∧ (∀ p, p < 10 → pw w p 1 = nI (crN w p) ∧ crN w p ≤ 9) ∧ w 4 = nI (lNn w) ∧ lNn w ≤ 20
theorem r_mok.b {w : Nat → Int32} {nb : Nat} (h : r_mok w nb) : r_bok w nb := h.1
theorem r_mok.s {w : Nat → Int32} {nb : Nat} (h : r_mok w nb) : ∀ p, p < 10 → pw w p 0 = nI (stN w p) ∧ stN w p ≤ 12 := h.2.1
theorem r_mok.c {w : Nat → Int32} {nb : Nat} (h : r_mok w nb) : ∀ p, p < 10 → pw w p 1 = nI (crN w p) ∧ crN w p ≤ 9 := h.2.2.1
theorem r_mok.l {w : Nat → Int32} {nb : Nat} (h : r_mok w nb) : w 4 = nI (lNn w) ∧ lNn w ≤ 20 := h.2.2.2
def r_mnw (w : Nat → Int32) (nb : Nat) : Nat → Int32 := r_men w (bnN w 0) (pcN w (bnN w 0)) nb (lmN w (bnN w 0)) (lNn w)
theorem men_99 {w : Nat → Int32} {nb j : Nat} (hc : pcN w (bnN w 0) ≤ 6) (hp : bnN w 0 < 10) (hb : nb ≤ 10) (hl : lNn w ≤ 20) (hj : 99 ≤ j) : r_mnw w nb j = w j := by
  refine (men_hi hb (by omega)).trans ((mnX_hi hc hl (by omega)).trans ?_)
  rw [if_neg (by omega), if_neg (by omega), if_neg (by omega), if_neg (by omega)]
theorem pof_st {w : Nat → Int32} {st k : Nat} (h : r_pof w st = nI k) (hk : k ≤ 6) (hs : st ≤ 12) : st + k ≤ 12 := by
  unfold r_pof at h
  split at h
  · have : 0 = k := (nI_eq (a := 0) (by omega) (by omega)).mp h
    omega
  · omega
theorem mok_men {w : Nat → Int32} {nb : Nat} (h : r_mok w nb) (hb : nb ≤ 10) (h0 : 0 < nb) (ho : o_mdd w (bnN w 0) (stN w (bnN w 0)) = none) : r_mok (r_mnw w nb) (nb - 1) := by
  obtain ⟨b1, b2⟩ := h.b 0 h0
  obtain ⟨c1, c2⟩ := h.c _ b2
  obtain ⟨lm, pc, e1, e2, e3, e4⟩ := mdd_none ho c1 c2 h.l.1 h.l.2
  have ep : pcN w (bnN w 0) = pc := by unfold pcN; rw [e3]; exact nI_clamp (by omega)
  have hst := pof_st e3 e4 (h.s _ b2).2
  have hl := h.l.2
  have hcl : ∀ {x : Int32} {n : Nat}, x = nI n → n ≤ 20 → x = nI x.toNatClampNeg ∧ x.toNatClampNeg = n := by
    intro x n hx hn
    subst hx
    rw [nI_clamp (by omega)]
    exact ⟨rfl, rfl⟩
  have hp : ∀ p j, p < 10 → j < 5 → pw (r_mnw w nb) p j = _ := fun p j hp hj => (men_hi hb (by omega)).trans (mnX_hi (by rw [ep]; exact e4) hl (by omega))
  refine ⟨fun k hk => ?_, fun p hp1 => ?_, fun p hp1 => ?_, ?_⟩
  · have e := men_b (w := w) (p := bnN w 0) (pc := pcN w (bnN w 0)) (lm := lmN w (bnN w 0)) (nl := lNn w) (by rw [ep]; exact e4) hb hk
    obtain ⟨q1, q2⟩ := h.b (k + 1) (by omega)
    exact bok_of (e.trans q1) q2
  · have e := hp p 0 hp1 (by decide)
    obtain ⟨q1, q2⟩ := h.s p hp1
    have hx : ∃ n, pw (r_mnw w nb) p 0 = nI n ∧ n ≤ 12 := by
      rw [e]
      rw [if_neg (by omega), if_neg (by omega), if_neg (by omega)]
      split
      · rename_i he
        have : p = bnN w 0 := by omega
        subst this
        exact ⟨stN w (bnN w 0) + pc, by rw [ep]; exact (congrArg (· + nI pc) q1).trans (nI_add _ _), hst⟩
      · exact ⟨stN w p, q1, q2⟩
    obtain ⟨n, x1, x2⟩ := hx
    obtain ⟨y1, y2⟩ := hcl x1 (by omega)
    exact ⟨y1, by unfold stN; omega⟩
  · have e := hp p 1 hp1 (by decide)
    obtain ⟨q1, q2⟩ := h.c p hp1
    have hx : ∃ n, pw (r_mnw w nb) p 1 = nI n ∧ n ≤ 9 := by
      rw [e]
      rw [if_neg (by omega), if_neg (by omega)]
      split
      · exact ⟨0, rfl, by decide⟩
      · rw [if_neg (by omega)]
        exact ⟨crN w p, q1, q2⟩
    obtain ⟨n, x1, x2⟩ := hx
    obtain ⟨y1, y2⟩ := hcl x1 (by omega)
    exact ⟨y1, by unfold crN; omega⟩
  · have e := men_4 (w := w) (p := bnN w 0) (pc := pcN w (bnN w 0)) (nb := nb) (lm := lmN w (bnN w 0)) (nl := lNn w) (by rw [ep]; exact e4) h.l.1
    obtain ⟨y1, y2⟩ := hcl e (by omega)
    exact ⟨y1, by show (r_mnw w nb 4).toNatClampNeg ≤ 20; exact Nat.le_trans (Nat.le_of_eq y2) (by omega)⟩
def r_cmd : Nat → (Nat → Int32) → (Nat → Int32) → (Nat → Int32) × Nat
  | 0, S, _ => (S, 0)
  | n + 1, S, w => if (o_mdd w (bnN w 0) (stN w (bnN w 0))).isNone then ((r_cmd n S (r_mnw w (n + 1))).1, (r_cmd n S (r_mnw w (n + 1))).2 + 1) else (nS S (o_mdd w (bnN w 0) (stN w (bnN w 0))), 0)
theorem why_t {w : Nat → Int32} {p t : Nat} (h : r_why w p < 0) (ht : pw w p 2 = nI t) (hb : t ≤ 100) : t ≤ 4 := by
  unfold r_why at h
  split at h
  · split at h
    · split at h
      · rename_i c
        rw [ht] at c
        exact (nI_leI (b := 4) (by omega) (by omega)).mp c
      · exact absurd h (by decide)
    · exact absurd h (by decide)
  · exact absurd h (by decide)
theorem smk_t {w : Nat → Int32} {p : Int32} {nb pn t : Nat} (h : o_smk w p nb pn = none) (ht : pw w pn 2 = nI t) (hb : t ≤ 100) : t ≤ 4 := by
  unfold o_smk at h
  split at h
  · cases h
  · split at h
    · split at h
      · rename_i c
        exact why_t c ht hb
      · cases h
    · cases h
theorem smk_o {w : Nat → Int32} {p j : Nat} (h1 : j ≠ 49 + 5 * p + 1) (h2 : j ≠ 49 + 5 * p + 2) (h4 : j ≠ 49 + 5 * p + 4) (h : j ≠ 10) : r_smk w p j = w j := by
  unfold r_smk r_inc
  rw [upd_n h, upd_n h4]
  unfold r_sm2
  split
  · exact upd_n h2
  · rw [upd_n h1]
    exact upd_n h2
theorem smk_2 {w : Nat → Int32} {p t : Nat} (ht : pw w p 2 = nI t) (hb : t ≤ 4) : pw (r_smk w p) p 2 = nI (t + 1) := by
  have e : pw (r_sm1 w p) p 2 = nI (t + 1) := by
    unfold pw r_sm1
    rw [upd_s, ht, hld, nI_1]
    exact if_neg (fun h => absurd ((nI_ltI (a := 9) (by omega) (by omega)).mp h) (by omega))
  unfold r_smk r_inc
  show upd _ _ _ _ = _
  rw [upd_n (by omega), upd_n (by omega)]
  unfold r_sm2
  split
  · exact e
  · rw [upd_n (by omega)]
    exact e
