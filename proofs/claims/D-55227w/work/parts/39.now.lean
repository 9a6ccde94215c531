/-! THE ORDERS OF A TEXT: what is asked, what is done -/
theorem sw7 (x : Int32) : x = 0 ∨ x = 1 ∨ x = 2 ∨ x = 3 ∨ x = 4 ∨ x = 5 ∨ x = 6 ∨ ((x.toInt < 0 ∨ 6 < x.toInt) ∧ ¬ x = 0 ∧ ¬ x = 1 ∧ ¬ x = 2 ∧ ¬ x = 3 ∧ ¬ x = 4 ∧ ¬ x = 5 ∧ ¬ x = 6) := by
  by_cases h0 : x = 0
  · exact Or.inl h0
  by_cases h1 : x = 1
  · exact Or.inr (Or.inl h1)
  by_cases h2 : x = 2
  · exact Or.inr (Or.inr (Or.inl h2))
  by_cases h3 : x = 3
  · exact Or.inr (Or.inr (Or.inr (Or.inl h3)))
  by_cases h4 : x = 4
  · exact Or.inr (Or.inr (Or.inr (Or.inr (Or.inl h4))))
  by_cases h5 : x = 5
  · exact Or.inr (Or.inr (Or.inr (Or.inr (Or.inr (Or.inl h5)))))
  by_cases h6 : x = 6
  · exact Or.inr (Or.inr (Or.inr (Or.inr (Or.inr (Or.inr (Or.inl h6))))))
  refine Or.inr (Or.inr (Or.inr (Or.inr (Or.inr (Or.inr (Or.inr ⟨?_, h0, h1, h2, h3, h4, h5, h6⟩))))))
  have e0 : ¬ x.toInt = 0 := fun e => h0 (Int32.toInt_inj.mp e)
  have e1 : ¬ x.toInt = 1 := fun e => h1 (Int32.toInt_inj.mp e)
  have e2 : ¬ x.toInt = 2 := fun e => h2 (Int32.toInt_inj.mp e)
  have e3 : ¬ x.toInt = 3 := fun e => h3 (Int32.toInt_inj.mp e)
  have e4 : ¬ x.toInt = 4 := fun e => h4 (Int32.toInt_inj.mp e)
  have e5 : ¬ x.toInt = 5 := fun e => h5 (Int32.toInt_inj.mp e)
  have e6 : ¬ x.toInt = 6 := fun e => h6 (Int32.toInt_inj.mp e)
  omega
def npN (w : Nat → Int32) : Nat := (w 2).toNatClampNeg
def nbN (w : Nat → Int32) : Nat := (w 3).toNatClampNeg
def pN (x : Int32) : Nat := x.toNatClampNeg
def o_now (w : Nat → Int32) (so x y : Int32) : Why := if so = 0 then o_bring w x (nbN w) else if so = 1 then o_mend w (bnN w 0) (stN w (bnN w 0)) (hN w) else if so = 2 then o_smk w x (nbN w) (pN x) else if so = 3 then o_lump w x else if so = 4 then o_piece w x else if so = 5 then o_scr w x else if so = 6 then o_drp w x y else o_hour x
def d_now (w : Nat → Int32) (so x y : Int32) : Nat → Int32 := if so = 0 then r_brg w x (nbN w) else if so = 1 then r_mnw w (nbN w) else if so = 2 then r_smk w (pN x) else if so = 3 then r_lcm w x (lNn w) else if so = 4 then r_pcm w (pN x) else if so = 5 then r_scr w (pN x) (r_nxt w 8 ((pN x + 1) % 8)) else if so = 6 then r_drp w (pN x) (pN y) else r_pas w (pN x)
theorem pN_of {x : Int32} {n : Nat} (h : x = nI n) (hn : n < 2 ^ 31) : pN x = n := by unfold pN; rw [h]; exact nI_clamp hn
/-- the numbers of a sound row, by the row -/
def rokD (B : Nat) (w : Nat → Int32) : Prop := w 0 = nI (hN w) ∧ hN w ≤ B ∧ w 2 = nI (npN w) ∧ npN w ≤ 10 ∧ w 3 = nI (nbN w) ∧ nbN w ≤ 10 ∧ w 4 = nI (lNn w) ∧ lNn w ≤ 20
theorem rok_D {B : Nat} {w : Nat → Int32} (hB : B < 2 ^ 30) (h : rok B w) : rokD B w := by
  obtain ⟨h, cf, np, nb, nl, pr, ⟨a0, a1, a2, a3, a4, a5, a6, a7, a8, a9, a10, a11⟩, -⟩ := h
  have e0 : hN w = h := hN_of a0 (by omega)
  have e2 : npN w = np := pN_of a5 (by omega)
  have e3 : nbN w = nb := pN_of a7 (by omega)
  have e4 : lNn w = nl := lNn_of a9 (by omega)
  unfold rokD
  rw [e0, e2, e3, e4]
  exact ⟨a0, a1, a5, a6, a7, a8, a9, a10⟩
theorem rok_P {B : Nat} {w : Nat → Int32} (h : rok B w) {p : Nat} (hp : p < 10) : pw w p 0 = nI (stN w p) ∧ stN w p ≤ 12 ∧ pw w p 1 = nI (crN w p) ∧ crN w p ≤ 9 ∧ pw w p 2 = nI (taN w p) ∧ taN w p ≤ 9 := by
  obtain ⟨h, cf, np, nb, nl, pr, -, -, -, -, h1, -⟩ := h
  obtain ⟨⟨s, s1, s2⟩, ⟨c, c1, c2⟩, ⟨t, t1, t2⟩⟩ := h1 p hp
  have e0 : stN w p = s := pN_of s1 (by omega)
  have e1 : crN w p = c := pN_of c1 (by omega)
  have e2 : taN w p = t := pN_of t1 (by omega)
  rw [e0, e1, e2]
  exact ⟨s1, s2, c1, c2, t1, t2⟩
theorem rok_bench {B : Nat} {w : Nat → Int32} (h : rok B w) : ∀ k, k < nbN w → w (12 + k) = nI (bnN w k) ∧ bnN w k < npN w ∧ bnN w k < 10 := by
  obtain ⟨h, cf, np, nb, nl, pr, ⟨a0, a1, a2, a3, a4, a5, a6, a7, a8, a9, a10, a11⟩, ⟨f, f1, f2⟩, -⟩ := h
  have e2 : npN w = np := pN_of a5 (by omega)
  have e3 : nbN w = nb := pN_of a7 (by omega)
  intro k hk
  obtain ⟨g1, g2⟩ := f1 k (by omega)
  have e : bnN w k = f k := pN_of g1 (by omega)
  rw [e]
  exact ⟨g1, by omega, by omega⟩
theorem rok_b {B : Nat} {w : Nat → Int32} (h : rok B w) : r_bok w (nbN w) := fun k hk => ⟨(rok_bench h k hk).1, (rok_bench h k hk).2.2⟩
theorem rok_isP {B : Nat} {w : Nat → Int32} (hB : B < 2 ^ 30) (h : rok B w) {p : Int32} (hp : isP w p = true) : p = nI (pN p) ∧ pN p < 10 ∧ pN p < npN w := by
  obtain ⟨-, -, d2, d3, -⟩ := rok_D hB h
  obtain ⟨pn, q1, q2⟩ := isP_N d2 d3 hp
  rw [pN_of q1 (by omega)]
  exact ⟨q1, by omega, q2⟩
theorem rok_has {B : Nat} {w : Nat → Int32} (h : rok B w) (x : Nat) (b : Bool) : r_has w x b 0 := by
  obtain ⟨h, cf, np, nb, nl, pr, ⟨a0, a1, a2, a3, a4, a5⟩, -⟩ := h
  exact has_ok a2 a3 a4 b
theorem rok_1st {B : Nat} {w : Nat → Int32} (hB : B < 2 ^ 30) (h : rok B w) (h3 : ¬ w 3 = 0) : w 12 = nI (bnN w 0) ∧ bnN w 0 < 10 ∧ pw w (bnN w 0) 0 = nI (stN w (bnN w 0)) ∧ stN w (bnN w 0) ≤ 40 := by
  obtain ⟨-, -, d2, d3, d4, d5, -⟩ := rok_D hB h
  have h0 : 0 < nbN w := by
    rcases Nat.eq_zero_or_pos (nbN w) with q | q
    · rw [q] at d4
      exact absurd d4 h3
    · exact q
  obtain ⟨b1, b2, b3⟩ := rok_bench h 0 h0
  obtain ⟨s1, s2, -⟩ := rok_P h b3
  exact ⟨b1, b3, s1, by omega⟩
/-- what a mending needs and leaves -/
theorem rok_men {B : Nat} {w : Nat → Int32} (hB : B < 2 ^ 30) (h : rok B w) (h3 : ¬ w 3 = 0) (ho : o_mdd w (bnN w 0) (stN w (bnN w 0)) = none) : (r_pof w (stN w (bnN w 0)) = nI (pcN w (bnN w 0)) ∧ pcN w (bnN w 0) ≤ 6 ∧ r_lum w (bnN w 0) = nI (lmN w (bnN w 0)) ∧ lmN w (bnN w 0) ≤ lNn w ∧ 0 < nbN w) ∧ rok B (r_mnw w (nbN w)) := by
  obtain ⟨-, -, d2, d3, d4, d5, d6, d7⟩ := rok_D hB h
  have h0 : 0 < nbN w := by
    rcases Nat.eq_zero_or_pos (nbN w) with q | q
    · rw [q] at d4
      exact absurd d4 h3
    · exact q
  obtain ⟨b1, b2, b3⟩ := rok_bench h 0 h0
  obtain ⟨s1, s2, s3, s4, -⟩ := rok_P h b3
  obtain ⟨lm, pc, e1, e2, e3, e4⟩ := mdd_none ho s3 s4 d6 d7
  have el : lmN w (bnN w 0) = lm := pN_of e1 (by omega)
  have ep : pcN w (bnN w 0) = pc := pN_of e3 (by omega)
  rw [el, ep]
  refine ⟨⟨e3, e4, e1, e2, h0⟩, ?_⟩
  obtain ⟨h, cf, np, nb, nl, pr, hw⟩ := h
  have x2 : npN w = np := pN_of hw.1.2.2.2.2.2.1 (by have := hw.1.2.2.2.2.2.2.1; omega)
  have x3 : nbN w = nb := pN_of hw.1.2.2.2.2.2.2.2.1 (by have := hw.1.2.2.2.2.2.2.2.2.1; omega)
  have x4 : lNn w = nl := pN_of hw.1.2.2.2.2.2.2.2.2.2.1 (by have := hw.1.2.2.2.2.2.2.2.2.2.2.1; omega)
  unfold r_mnw
  rw [el, ep, x3, x4]
  exact ⟨_, _, _, _, _, _, men_ok hw (by omega) (by omega) s1 s2 e3 e4 (by omega)⟩
theorem rok_now {B : Nat} {w : Nat → Int32} (hB : B < 2 ^ 30) (h : rok B w) {so x y : Int32} (ho : o_now w so x y = none) : rok (B + 48) (d_now w so x y) := by
  obtain ⟨d0, d1, d2, d3, d4, d5, d6, d7⟩ := rok_D hB h
  have h' := h
  obtain ⟨hh, cf, np, nb, nl, pr, hw⟩ := h
  have x2 : npN w = np := pN_of hw.1.2.2.2.2.2.1 (by have := hw.1.2.2.2.2.2.2.1; omega)
  have x3 : nbN w = nb := pN_of hw.1.2.2.2.2.2.2.2.1 (by have := hw.1.2.2.2.2.2.2.2.2.1; omega)
  have x4 : lNn w = nl := pN_of hw.1.2.2.2.2.2.2.2.2.2.1 (by have := hw.1.2.2.2.2.2.2.2.2.2.2.1; omega)
  unfold o_now at ho
  unfold d_now
  split
  · rename_i e
    rw [if_pos e, x3] at ho
    rw [x3]
    exact rok_h ⟨_, _, _, _, _, _, (brg_ok hw ho).2⟩ (Nat.le_add_right _ _)
  rename_i n0
  rw [if_neg n0] at ho
  split
  · rename_i e
    rw [if_pos e] at ho
    unfold o_mend at ho
    split at ho
    · cases ho
    rename_i h3
    split at ho
    · exact rok_h (rok_men hB h' h3 ho).2 (Nat.le_add_right _ _)
    · cases ho
  rename_i n1
  rw [if_neg n1] at ho
  split
  · rename_i e
    rw [if_pos e] at ho
    obtain ⟨q, q1, q2⟩ := smk_N d2 d3 ho
    rw [pN_of q1 (by omega)]
    exact rok_h ⟨_, _, _, _, _, _, smk_ok hw (by omega)⟩ (Nat.le_add_right _ _)
  rename_i n2
  rw [if_neg n2] at ho
  split
  · rename_i e
    rw [if_pos e] at ho
    rw [x4]
    exact rok_h ⟨_, _, _, _, _, _, (lcm_ok hw ho).2⟩ (Nat.le_add_right _ _)
  rename_i n3
  rw [if_neg n3] at ho
  split
  · rename_i e
    rw [if_pos e] at ho
    obtain ⟨i, q1, q2, q3, q4⟩ := piece_N ho
    rw [pN_of q1 (by omega)]
    exact rok_h ⟨_, _, _, _, _, _, pcm_ok hw q2 q3 q4⟩ (Nat.le_add_right _ _)
  rename_i n4
  rw [if_neg n4] at ho
  split
  · rename_i e
    rw [if_pos e] at ho
    obtain ⟨q, q1, q2, q3⟩ := scr_N ho
    rw [pN_of q1 (by omega)]
    obtain ⟨pr', hx⟩ := scr_ok hw q2 (nxt_lt (w := w) 8 ((q + 1) % 8) (Nat.mod_lt _ (by decide)))
    exact rok_h ⟨_, _, _, _, _, _, hx⟩ (Nat.le_add_right _ _)
  rename_i n5
  rw [if_neg n5] at ho
  split
  · rename_i e
    rw [if_pos e] at ho
    obtain ⟨q, r, q1, q2, q3, q4⟩ := drp_N d2 d3 ho
    rw [pN_of q1 (by omega), pN_of q3 (by omega)]
    exact rok_h ⟨_, _, _, _, _, _, drp_ok hw (by omega) q4⟩ (Nat.le_add_right _ _)
  rename_i n6
  rw [if_neg n6] at ho
  obtain ⟨m, q1, q2⟩ := hour_N ho
  rw [pN_of q1 (by omega)]
  obtain ⟨nl', hx⟩ := pas_okW hw m
  exact rok_h ⟨_, _, _, _, _, _, hx⟩ (by omega)
