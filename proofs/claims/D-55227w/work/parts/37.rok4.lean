/-! every change keeps the row sound: the bench, mending, smoking, dropping, parrots, hours -/
theorem btw_0N {v : Int32} {n : Nat} (hn : n < 2 ^ 31) (h : btw v 0 (nI n - 1) = true) : ∃ m, v = nI m ∧ m < n := by
  cases n with
  | zero =>
    unfold btw at h
    rw [Bool.and_eq_true, decide_eq_true_eq, decide_eq_true_eq] at h
    exact absurd (Int32.le_trans h.1 h.2) (by decide)
  | succ n =>
    rw [nI_pred] at h
    obtain ⟨m, e1, e2, e3⟩ := btw_N (n := n) (nI_toInt (by omega)) h (by decide)
    exact ⟨m, e1, by omega⟩
theorem rB_swap {w w' : Nat → Int32} {np nb i j : Nat} (h : rB w np nb) (hi : i < nb) (hj : j < nb) (ei : w' (12 + i) = w (12 + j)) (ej : w' (12 + j) = w (12 + i)) (eo : ∀ k, k < nb → k ≠ i → k ≠ j → w' (12 + k) = w (12 + k)) : rB w' np nb := by
  obtain ⟨f, h1, h2⟩ := h
  refine ⟨fun k => if k = i then f j else if k = j then f i else f k, fun k hk => ?_, fun a b ha hb he => ?_⟩
  · show w' (12 + k) = nI (if k = i then f j else if k = j then f i else f k) ∧ (if k = i then f j else if k = j then f i else f k) < np
    by_cases q1 : k = i
    · subst q1
      rw [if_pos rfl]
      exact ⟨ei.trans (h1 j hj).1, (h1 j hj).2⟩
    · rw [if_neg q1]
      by_cases q2 : k = j
      · subst q2
        rw [if_pos rfl]
        exact ⟨ej.trans (h1 i hi).1, (h1 i hi).2⟩
      · rw [if_neg q2]
        exact ⟨(eo k hk q1 q2).trans (h1 k hk).1, (h1 k hk).2⟩
  · have hF : ∀ k, (if k = i then f j else if k = j then f i else f k) = f (if k = i then j else if k = j then i else k) := by
      intro k
      split
      · rfl
      · split <;> rfl
    have he : (if a = i then f j else if a = j then f i else f a) = (if b = i then f j else if b = j then f i else f b) := he
    rw [hF a, hF b] at he
    have h3 := h2 _ _ (by split; exact hj; split; exact hi; exact ha) (by split; exact hj; split; exact hi; exact hb) he
    split at h3 <;> split at h3 <;> (try split at h3) <;> (try split at h3) <;> omega
theorem bench_ok {B : Nat} {w w' : Nat → Int32} {h cf np nb nl pr : Nat} (hw : rokW B w h cf np nb nl pr) (e : ∀ j, j < 12 ∨ 22 ≤ j → w' j = w j) (hx : rB w' np nb) : rokW B w' h cf np nb nl pr := by
  obtain ⟨hs, hb, hl, hX, hp⟩ := hw
  refine ⟨?_, hx, rL_fr hl (fun k hk => e _ (by omega)), rX_fr hX (fun k hk => e _ (by omega)), rP_fr hp (fun k h1 h2 => e _ (by omega))⟩
  unfold rS at hs ⊢
  rw [e 0 (by omega), e 1 (by omega), e 2 (by omega), e 3 (by omega), e 4 (by omega), e 11 (by omega)]
  exact hs
theorem exc_o {w : Nat → Int32} {i j k : Nat} (h1 : k ≠ 12 + i) (h2 : k ≠ 12 + j) : r_exc w i j k = w k := by
  unfold r_exc
  rw [upd_n h2, upd_n h1]
theorem exc_rB {w : Nat → Int32} {np nb i j : Nat} (h : rB w np nb) (hi : i < nb) (hj : j < nb) : rB (r_exc w i j) np nb := by
  refine rB_swap h hi hj ?_ ?_ (fun k hk h1 h2 => exc_o (by omega) (by omega))
  · unfold r_exc
    by_cases e : i = j
    · subst e
      exact upd_s
    · rw [upd_n (by omega)]
      exact upd_s
  · exact upd_s
theorem exc_ok {B : Nat} {w : Nat → Int32} {h cf np nb nl pr i j : Nat} (hw : rokW B w h cf np nb nl pr) (hi : i < nb) (hj : j < nb) : rokW B (r_exc w i j) h cf np nb nl pr := by
  have hnb : nb ≤ 10 := hw.1.2.2.2.2.2.2.2.2.1
  exact bench_ok hw (fun k hk => exc_o (by omega) (by omega)) (exc_rB hw.2.1 hi hj)
theorem exc_N {w : Nat → Int32} {a b : Int32} {nb : Nat} (h3 : w 3 = nI nb) (hn : nb ≤ 10) (ho : o_exc w a b = none) : ∃ i j, a = nI i ∧ b = nI j ∧ i < nb ∧ j < nb := by
  unfold o_exc at ho
  split at ho
  · cases ho
  · rename_i e
    unfold o_place at e ho
    rw [h3] at e ho
    split at e
    · cases e
    · rename_i e1
      split at ho
      · cases ho
      · rename_i e2
        obtain ⟨i, q1, q2⟩ := btw_0N (by omega) (show btw a 0 (nI nb - 1) = true by simpa using e1)
        obtain ⟨j, q3, q4⟩ := btw_0N (by omega) (show btw b 0 (nI nb - 1) = true by simpa using e2)
        exact ⟨i, j, q1, q3, q2, q4⟩
/-- sorting in: where p put at place k is sound, so is all that comes -/
theorem sin_ok {np nb p : Nat} (hn : nb ≤ 10) : ∀ (k : Nat) (w : Nat → Int32), k < nb → rB (upd w (12 + k) (nI p)) np nb → rB (r_sin p k w) np nb ∧ (∀ j, j < 12 ∨ 22 ≤ j → r_sin p k w j = w j)
  | 0, w, _, h => ⟨h, fun j hj => upd_n (by omega)⟩
  | k + 1, w, hk, h => by
    unfold r_sin
    split
    · exact ⟨h, fun j hj => upd_n (by omega)⟩
    · have h1 : rB (upd (upd w (12 + (k + 1)) (w (12 + k))) (12 + k) (nI p)) np nb := by
        refine rB_swap h (i := k) (j := k + 1) (by omega) hk ?_ ?_ (fun i hi h1 h2 => ?_)
        · rw [upd_s, upd_s]
        · rw [upd_n (by omega), upd_s, upd_n (by omega)]
        · rw [upd_n (by omega), upd_n (by omega), upd_n (by omega)]
      obtain ⟨a, b⟩ := sin_ok hn k _ (by omega) h1
      exact ⟨a, fun j hj => (b j hj).trans (upd_n (by omega))⟩
theorem sro_ok {B : Nat} {h cf np nb nl pr : Nat} : ∀ (n i : Nat) (w : Nat → Int32), rokW B w h cf np nb nl pr → i + n ≤ nb → rokW B (r_sro n i w) h cf np nb nl pr
  | 0, _, _, hw, _ => hw
  | n + 1, i, w, hw, hi => by
    have hnb : nb ≤ 10 := hw.1.2.2.2.2.2.2.2.2.1
    have hnp : np ≤ 10 := hw.1.2.2.2.2.2.2.1
    have e : upd w (12 + i) (nI (bnN w i)) = w := by
      obtain ⟨f, h1, h2⟩ := hw.2.1
      obtain ⟨q1, q2⟩ := h1 i (by omega)
      rw [← (bok_of q1 (by omega)).1]
      exact upd_same w (12 + i)
    obtain ⟨a, b⟩ := sin_ok (p := bnN w i) hnb i w (by omega) (by rw [e]; exact hw.2.1)
    exact sro_ok n (i + 1) _ (bench_ok hw b a) (by omega)
theorem use_ok {B : Nat} {w : Nat → Int32} {h cf np nb nl pr : Nat} (hw : rokW B w h cf np nb nl pr) : ∀ i, i ≤ nl → rokW B (r_use w nl i) h cf np nb (nl - i) pr
  | 0, _ => hw
  | i + 1, hi => by
    have h1 := lgo_ok (use_ok hw i (by omega)) (pl := 0) (by omega)
    exact inc_ok h1 (by decide) (by decide)
theorem tkp_ok {B : Nat} {w : Nat → Int32} {h cf np nb nl pr pc : Nat} (hw : rokW B w h cf np nb nl pr) (h6 : pc ≤ 6) (h0 : ¬ pc = 0 → 0 < w (42 + pc)) : rokW B (r_tkp w pc) h cf np nb nl pr := by
  unfold r_tkp
  split
  · exact hw
  · rename_i e
    exact box_ok hw (fun j hj => upd_n (by omega)) (rX_dec hw.2.2.2.1 (by omega) (by omega) (h0 e) upd_s (fun j h1 h2 => upd_n (by omega))).1
theorem sho_p {w : Nat → Int32} {k : Nat} : ∀ n i, r_sho w n i = nI k → i + n ≤ 7 → k ≤ 6 → ¬ k = 0 → 0 < w (42 + k)
  | 0, i, h, _, h6, _ => by
    exact absurd (show (-1 : Int32) < 0 by decide) (by rw [show (-1 : Int32) = nI k from h]; exact nI_pos (by omega))
  | n + 1, i, h, hn, h6, h0 => by
    unfold r_sho at h
    split at h
    · exact sho_p n (i + 1) h (by omega) h6 h0
    · rename_i e
      have := (nI_eq (by omega) (by omega)).mp h
      subst this
      exact Int32.not_le.mp e
theorem pof_p {w : Nat → Int32} {st k : Nat} (h : r_pof w st = nI k) (h6 : k ≤ 6) (h0 : ¬ k = 0) : 0 < w (42 + k) := by
  unfold r_pof at h
  split at h
  · exact absurd ((nI_eq (a := 0) (by omega) (by omega)).mp h).symm h0
  · exact sho_p _ _ h (by omega) h6 h0
theorem men_ok {B : Nat} {w : Nat → Int32} {h cf np nb nl pr p pc lm st : Nat} (hw : rokW B w h cf np nb nl pr) (hp : p < np) (hb : 0 < nb) (hst : pw w p 0 = nI st) (h12 : st ≤ 12) (hpc : r_pof w st = nI pc) (h6 : pc ≤ 6) (hlm : lm ≤ nl) : rokW B (r_men w p pc nb lm nl) h cf np (nb - 1) (nl - lm) pr := by
  have hnl : nl ≤ 20 := hw.1.2.2.2.2.2.2.2.2.2.2.1
  have hu := use_ok hw lm hlm
  have hu2 : ∀ j, 42 ≤ j → r_use w nl lm j = w j := fun j hj => use_o (by omega) (by omega) (by omega) lm
  have ht := tkp_ok hu h6 (fun e => by rw [hu2 _ (by omega)]; exact pof_p hpc h6 e)
  have ht2 : ∀ j, 49 ≤ j → r_tkp (r_use w nl lm) pc j = w j := fun j hj => by
    unfold r_tkp
    split
    · exact hu2 j (by omega)
    · rw [upd_n (by omega)]
      exact hu2 j (by omega)
  have h1 : rokW B (r_inc (r_md1 (r_tkp (r_use w nl lm) pc) p pc) (49 + 5 * p + 3)) h cf np nb (nl - lm) pr := by
    refine pipe_ok (p := p) ht hp (fun j hj => ?_) ⟨st + pc, ?_, pof_st hpc h6 h12⟩ ⟨0, ?_, by decide⟩ ⟨0, ?_, by decide⟩
    · unfold r_inc r_md1
      rw [upd_n (by omega), upd_n (by omega), upd_n (by omega), upd_n (by omega)]
    · show r_inc _ _ _ = _
      unfold r_inc r_md1
      rw [upd_n (by omega), upd_n (by omega), upd_n (by omega), upd_s]
      unfold pw
      rw [ht2 _ (by omega), ← nI_add]
      exact congrArg (· + nI pc) hst
    · show r_inc _ _ _ = _
      unfold r_inc r_md1
      rw [upd_n (by omega), upd_n (by omega), upd_s]
      rfl
    · show r_inc _ _ _ = _
      unfold r_inc r_md1
      rw [upd_n (by omega), upd_s]
      rfl
  exact lvb_ok (inc_ok h1 (by decide) (by decide)) hb
theorem hld_N (a : Nat) (h : a < 2 ^ 30) : ∃ n, hld (nI a) = nI n ∧ n ≤ 9 := by
  unfold hld
  split
  · exact ⟨9, rfl, Nat.le_refl _⟩
  · rename_i e
    exact ⟨a, rfl, by
      rcases Nat.lt_or_ge 9 a with q | q
      · exact absurd (nI_lt q (by omega)) e
      · exact q⟩
theorem smk_ok {B : Nat} {w : Nat → Int32} {h cf np nb nl pr p : Nat} (hw : rokW B w h cf np nb nl pr) (hp : p < np) : rokW B (r_smk w p) h cf np nb nl pr := by
  have hnp : np ≤ 10 := hw.1.2.2.2.2.2.2.1
  obtain ⟨⟨s, s1, s2⟩, ⟨c, c1, c2⟩, ⟨t, t1, t2⟩⟩ := hw.2.2.2.2.1 p (by omega)
  obtain ⟨t', t3, t4⟩ := hld_N (t + 1) (by omega)
  obtain ⟨c', c3, c4⟩ := hld_N (c + 1) (by omega)
  have e2 : pw (r_sm1 w p) p 2 = nI t' := by
    unfold pw r_sm1
    rw [upd_s, t1, nI_1]
    exact t3
  have e1 : pw (r_sm1 w p) p 1 = nI c := by
    unfold pw r_sm1
    rw [upd_n (by omega)]
    exact c1
  have e0 : pw (r_sm1 w p) p 0 = nI s := by
    unfold pw r_sm1
    rw [upd_n (by omega)]
    exact s1
  refine inc_ok (pipe_ok (p := p) (w' := r_inc (r_sm2 (r_sm1 w p) p) (49 + 5 * p + 4)) hw hp (fun j hj => ?_) ⟨s, ?_, s2⟩ ?_ ⟨t', ?_, t4⟩) (by decide) (by decide)
  · unfold r_inc r_sm2
    rw [upd_n (by omega)]
    split
    · unfold r_sm1
      rw [upd_n (by omega)]
    · rw [upd_n (by omega)]
      unfold r_sm1
      rw [upd_n (by omega)]
  · show r_inc _ _ _ = _
    unfold r_inc r_sm2
    rw [upd_n (by omega)]
    split
    · exact e0
    · rw [upd_n (by omega)]
      exact e0
  · show ∃ c, r_inc _ _ _ = _ ∧ _
    unfold r_inc r_sm2
    rw [upd_n (by omega)]
    split
    · exact ⟨c, e1, c2⟩
    · rw [upd_s, e1, nI_1]
      exact ⟨c', c3, c4⟩
  · show r_inc _ _ _ = _
    unfold r_inc r_sm2
    rw [upd_n (by omega)]
    split
    · exact e2
    · rw [upd_n (by omega)]
      exact e2
theorem drp_ok {B : Nat} {w : Nat → Int32} {h cf np nb nl pr p ht : Nat} (hw : rokW B w h cf np nb nl pr) (hp : p < np) (hh : ht ≤ 9) : rokW B (r_drp w p ht) h cf np nb nl pr := by
  have hnp : np ≤ 10 := hw.1.2.2.2.2.2.2.1
  obtain ⟨⟨s, s1, s2⟩, ⟨c, c1, c2⟩, ⟨t, t1, t2⟩⟩ := hw.2.2.2.2.1 p (by omega)
  obtain ⟨c', c3, c4⟩ := hld_N (c + ht / 3) (by omega)
  refine pipe_ok (p := p) hw hp (fun j hj => ?_) ?_ ⟨c', ?_, c4⟩ ⟨t, ?_, t2⟩
  · unfold r_drp r_dr1
    rw [upd_n (by omega), upd_n (by omega)]
  · show ∃ s, r_drp _ _ _ _ = _ ∧ _
    unfold r_drp r_dr1
    rw [upd_n (by omega), upd_s, s1]
    split
    · rename_i e
      rcases Nat.lt_or_ge s (ht / 2) with q | q
      · exact absurd (pk_sneg (by omega) q) (Int32.not_lt.mpr e)
      · exact ⟨s - ht / 2, pk_sub q, by omega⟩
    · exact ⟨0, rfl, by decide⟩
  · show r_drp _ _ _ _ = _
    unfold r_drp
    rw [upd_s]
    unfold pw r_dr1
    rw [upd_n (by omega)]
    unfold pw at c1
    rw [c1, nI_add]
    exact c3
  · show r_drp _ _ _ _ = _
    unfold r_drp r_dr1
    rw [upd_n (by omega), upd_n (by omega)]
    exact t1
theorem cut_ok {B : Nat} {w : Nat → Int32} {h cf np nb nl pr p i s : Nat} (hw : rokW B w h cf np nb nl pr) (hp : p < np) (h1 : 1 ≤ i) (h7 : i < 7) (hs : pw w p 0 = nI s) (h12 : s ≤ 12) (hi : i ≤ s) (hx : ¬ r_pcs w 6 = 24) : rokW B (r_cut w p i) h cf np nb nl pr := by
  have hnp : np ≤ 10 := hw.1.2.2.2.2.2.2.1
  obtain ⟨-, ⟨c, c1, c2⟩, ⟨t, t1, t2⟩⟩ := hw.2.2.2.2.1 p (by omega)
  have hw1 : rokW B (upd w (49 + 5 * p + 0) (pw w p 0 - nI i)) h cf np nb nl pr := by
    refine pipe_ok (p := p) (w' := upd w (49 + 5 * p + 0) (pw w p 0 - nI i)) hw hp (fun j hj => upd_n (by omega)) ⟨s - i, ?_, by omega⟩ ⟨c, ?_, c2⟩ ⟨t, ?_, t2⟩
    · show upd _ _ _ _ = _
      rw [upd_s, hs, pk_sub hi]
    · exact (upd_n (by omega)).trans c1
    · exact (upd_n (by omega)).trans t1
  refine pcm_ok hw1 h1 h7 ?_
  have e : ∀ j, j < 49 → upd w (49 + 5 * p + 0) (pw w p 0 - nI i) j = w j := fun j hj => upd_n (by omega)
  unfold r_pcs r_pcs r_pcs r_pcs r_pcs r_pcs r_pcs at hx ⊢
  rw [e _ (by decide), e _ (by decide), e _ (by decide), e _ (by decide), e _ (by decide), e _ (by decide)]
  exact hx
theorem prt_ok {B : Nat} {w : Nat → Int32} {h cf np nb nl pr p : Nat} (hw : rokW B w h cf np nb nl pr) (h8 : p < 8) : rokW B (r_prt w (nI p)) h cf np nb nl (pr ||| 2 ^ p) := by
  refine rok_scal (w' := r_prt w (nI p)) hw (fun j h1 h2 => upd_n (by omega)) ?_
  obtain ⟨a0, a1, a2, a3, a4, a5, a6, a7, a8, a9, a10, a11, a12⟩ := hw.1
  obtain ⟨e1, e2⟩ := set_N a12 h8
  exact ⟨a0, a1, a2, a3, a4, a5, a6, a7, a8, a9, a10, (show w 11 ||| _ = _ by rw [a11]; exact e1), e2⟩
theorem scr_ok {B : Nat} {w : Nat → Int32} {h cf np nb nl pr p t : Nat} (hw : rokW B w h cf np nb nl pr) (h8 : p < 8) (ht : t < 8) : ∃ pr', rokW B (r_scr w p t) h cf np nb nl pr' := by
  obtain ⟨a0, a1, a2, a3, a4, a5, a6, a7, a8, a9, a10, a11, a12⟩ := hw.1
  obtain ⟨e1, e2⟩ := clr_N a12 h8
  obtain ⟨e3, e4⟩ := set_N e2 ht
  refine ⟨_, rok_scal (w' := r_scr w p t) hw (fun j h1 h2 => upd_n (by omega)) ⟨a0, a1, a2, a3, a4, a5, a6, a7, a8, a9, a10, (show (w 11 &&& _) ||| _ = _ by rw [a11, e1]; exact e3), e4⟩⟩
