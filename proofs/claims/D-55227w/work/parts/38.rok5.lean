/-! every change keeps the row sound: hours; what the contracts ask of a sound row -/
theorem lgo_ok2 {B : Nat} {w : Nat → Int32} {h cf np nb nl pr pl : Nat} (hs0 : rS B w h cf np nb nl pr) (hb : rB w np nb) (hl : ∀ k, k < nl → k ≠ pl → ∃ m, w (22 + k) = nI m ∧ 1 ≤ m ∧ m ≤ 20) (hx : rX w) (hp : rP w np) (hpl : pl < nl) : rokW B (r_lgo w nl pl) h cf np nb (nl - 1) pr := by
  obtain ⟨a0, a1, a2, a3, a4, a5, a6, a7, a8, a9, a10, a11⟩ := hs0
  have hs : rS B (upd w 4 (nI (nl - 1))) h cf np nb (nl - 1) pr := by
    unfold rS
    rw [upd_n (by omega), upd_n (by omega), upd_n (by omega), upd_n (by omega), upd_s, upd_n (by omega)]
    exact ⟨a0, a1, a2, a3, a4, a5, a6, a7, a8, rfl, by omega, a11⟩
  have hd : ∀ j, (j < 22 ∨ 42 ≤ j) → r_lgo w nl pl j = upd w 4 (nI (nl - 1)) j := fun j hj => del_o (by omega)
  refine ⟨?_, rB_fr hb (fun k hk => ?_), fun k hk => ?_, rX_fr hx (fun k hk => ?_), rP_fr hp (fun k h1 h2 => ?_)⟩
  · unfold rS at hs ⊢
    rw [hd 0 (by omega), hd 1 (by omega), hd 2 (by omega), hd 3 (by omega), hd 4 (by omega), hd 11 (by omega)]
    exact hs
  · rw [hd _ (by omega), upd_n (by omega)]
  · obtain ⟨x, y⟩ := hl (if k < pl then k else k + 1) (by split <;> omega) (by split <;> omega)
    exact ⟨x, ((del_at hk).trans (upd_n (by omega))).trans y.1, y.2⟩
  · rw [hd _ (by omega), upd_n (by omega)]
  · rw [hd _ (by omega), upd_n (by omega)]
theorem lng_p {w : Nat → Int32} : ∀ k, ¬ r_lng w k = 0 → 0 < w (42 + r_lng w k)
  | 0, h => absurd rfl h
  | k + 1, h => by
    unfold r_lng at h ⊢
    split
    · rename_i e
      rw [if_pos e] at h
      exact lng_p k h
    · rename_i e
      exact Int32.not_le.mp e
theorem bk1_ok {B : Nat} {w : Nat → Int32} {h cf np nb nl pr i : Nat} (hw : rokW B w h cf np nb nl pr) (h1 : 1 ≤ i) (h7 : i < 7) (h0 : 0 < w (42 + i)) : rokW B (r_bk1 w i) h cf np nb nl pr := by
  obtain ⟨x1, x2⟩ := rX_dec (w' := upd w (42 + i) (w (42 + i) - 1)) hw.2.2.2.1 h1 h7 h0 upd_s (fun j h1 h2 => upd_n (by omega))
  have hw1 := box_ok hw (fun j hj => upd_n (by omega)) x1
  unfold r_bk1
  refine inc_ok ?_ (by decide) (by decide)
  split
  · exact hw1
  · obtain ⟨m, rfl⟩ : ∃ m, i = m + 1 := ⟨i - 1, by omega⟩
    exact box_ok hw1 (fun j hj => upd_n (by omega)) (rX_inc (i := m) (w' := r_inc (upd w (42 + (m + 1)) (w (42 + (m + 1)) - 1)) (42 + (m + 1) - 1)) x1 (by omega) (by omega) x2 upd_s (fun j h1 h2 => upd_n (by omega)))
theorem brk_ok {B : Nat} {h cf np nb nl pr : Nat} : ∀ (n : Nat) (w : Nat → Int32), rokW B w h cf np nb nl pr → rokW B (r_brk w n) h cf np nb nl pr
  | 0, _, hw => hw
  | n + 1, w, hw => by
    unfold r_brk
    split
    · exact hw
    · rename_i e
      have hl := lng_le w 6
      exact brk_ok n _ (bk1_ok hw (by omega) (by omega) (lng_p 6 (by omega)))
theorem dry_ok {B : Nat} {h cf np nb pr : Nat} : ∀ (n : Nat) (w : Nat → Int32) (nl d : Nat), rokW B w h cf np nb nl pr → n ≤ nl → rokW B (r_dry n w nl d).1 h cf np nb (r_dry n w nl d).2.1 pr
  | 0, _, _, _, hw, _ => hw
  | n + 1, w, nl, d, hw, hn => by
    have hnb : nb ≤ 10 := hw.1.2.2.2.2.2.2.2.2.1
    have hnl : nl ≤ 20 := hw.1.2.2.2.2.2.2.2.2.2.2.1
    obtain ⟨m, m1, m2, m3⟩ := hw.2.2.1 n (by omega)
    obtain ⟨m', rfl⟩ : ∃ m', m = m' + 1 := ⟨m - 1, by omega⟩
    have e : ∀ j, j ≠ 22 + n → upd w (22 + n) (w (22 + n) - 1) j = w j := fun j hj => upd_n hj
    have es : upd w (22 + n) (w (22 + n) - 1) (22 + n) = nI m' := by rw [upd_s, m1, nI_pred]
    have hs : rS B (upd w (22 + n) (w (22 + n) - 1)) h cf np nb nl pr := by
      unfold rS
      rw [e 0 (by omega), e 1 (by omega), e 2 (by omega), e 3 (by omega), e 4 (by omega), e 11 (by omega)]
      exact hw.1
    have hb := rB_fr (w' := upd w (22 + n) (w (22 + n) - 1)) hw.2.1 (fun k hk => e _ (by omega))
    have hx := rX_fr (w' := upd w (22 + n) (w (22 + n) - 1)) hw.2.2.2.1 (fun k hk => e _ (by omega))
    have hp := rP_fr (w' := upd w (22 + n) (w (22 + n) - 1)) hw.2.2.2.2 (fun k h1 h2 => e _ (by omega))
    have hl : ∀ k, k < nl → k ≠ n → ∃ m, upd w (22 + n) (w (22 + n) - 1) (22 + k) = nI m ∧ 1 ≤ m ∧ m ≤ 20 := fun k hk hne => by
      rw [e _ (by omega)]
      exact hw.2.2.1 k hk
    unfold r_dry
    split
    · exact dry_ok n _ (nl - 1) (d + 1) (lgo_ok2 hs hb hl hx hp (by omega)) (by omega)
    · rename_i hc
      rw [es] at hc
      refine dry_ok n _ nl d ⟨hs, hb, fun k hk => ?_, hx, hp⟩ (by omega)
      by_cases q : k = n
      · subst q
        refine ⟨m', es, ?_, by omega⟩
        rcases Nat.eq_zero_or_pos m' with q | q
        · subst q
          exact absurd (show nI 0 ≤ 0 by decide) hc
        · exact q
      · exact hl k hk q
theorem hN_of {w : Nat → Int32} {h : Nat} (h0 : w 0 = nI h) (hb : h < 2 ^ 31) : hN w = h := by unfold hN; rw [h0]; exact nI_clamp hb
theorem lNn_of {w : Nat → Int32} {n : Nat} (h0 : w 4 = nI n) (hb : n < 2 ^ 31) : lNn w = n := by unfold lNn; rw [h0]; exact nI_clamp hb
theorem hr_ok {B : Nat} {w : Nat → Int32} {h cf np nb nl pr : Nat} (hw : rokW B w h cf np nb nl pr) : ∃ nl', rokW (B + 1) (r_hr w) (h + 1) cf np nb nl' pr := by
  have h1 : rokW B (r_hb w) h cf np nb nl pr := by
    unfold r_hb
    split
    · exact hw
    · exact brk_ok _ _ hw
  have h4 := hw.1.2.2.2.2.2.2.2.2.2.1
  have hnl : nl ≤ 20 := hw.1.2.2.2.2.2.2.2.2.2.2.1
  have h2 := dry_ok nl (r_hb w) nl 0 h1 (Nat.le_refl _)
  refine ⟨(r_dry nl (r_hb w) nl 0).2.1, ?_⟩
  unfold r_hr r_drW
  rw [lNn_of h4 (by omega)]
  have h3 := inc_ok (j := 7) (x := (r_dry nl (r_hb w) nl 0).1 7 + nI (r_dry nl (r_hb w) nl 0).2.2) h2 (by decide) (by decide)
  refine rok_scal (w' := r_inc (upd (r_dry nl (r_hb w) nl 0).1 7 ((r_dry nl (r_hb w) nl 0).1 7 + nI (r_dry nl (r_hb w) nl 0).2.2)) 0) h3 (fun j h1 h2 => upd_n (by omega)) ?_
  obtain ⟨a0, a1, a2⟩ := h3.1
  unfold rS r_inc
  rw [upd_s, upd_n (by omega), upd_n (by omega), upd_n (by omega), upd_n (by omega), upd_n (by omega)]
  exact ⟨(congrArg (· + 1) ((upd_n (show (0 : Nat) ≠ 7 by decide)).symm.trans a0)).trans (nI_1 h), by omega, a2⟩
theorem pas_okW {B : Nat} {w : Nat → Int32} {h cf np nb nl pr : Nat} (hw : rokW B w h cf np nb nl pr) : ∀ n, ∃ nl', rokW (B + n) (r_pas w n) (h + n) cf np nb nl' pr
  | 0 => ⟨nl, hw⟩
  | n + 1 => by
    obtain ⟨nl', h1⟩ := pas_okW hw n
    exact hr_ok h1
theorem hour_N {v : Int32} (ho : o_hour v = none) : ∃ m, v = nI m ∧ m ≤ 48 := by
  unfold o_hour at ho
  split at ho
  · cases ho
  · rename_i e
    obtain ⟨m, q1, q2, q3⟩ := btw_N (v := v) (lo := 1) (hi := 48) (n := 48) rfl (by simpa using e) (by decide)
    exact ⟨m, q1, q2⟩
/-- some hour of the day is drummed, some is not -/
theorem has_ok {w : Nat → Int32} {h cf : Nat} (h1 : w 1 = nI cf) (h18 : 18 ≤ cf) (h23 : cf ≤ 23) (b : Bool) : r_has w h b 0 := by
  have key : ∀ x, x < 24 → r_drm w (nI x) = (decide (cf ≤ x) || decide (x < 6)) := fun x hx => by
    unfold r_drm
    rw [h1]
    congr 1
    · rw [decide_eq_decide]
      exact nI_leI (by omega) (by omega)
    · rw [decide_eq_decide]
      exact nI_ltI (b := 6) (by omega) (by omega)
  have hit : ∀ y, y < 24 → ∃ m, m < 24 ∧ (h + m) % 24 = y := fun y hy => ⟨(y + 24 - h % 24) % 24, Nat.mod_lt _ (by decide), by omega⟩
  cases b with
  | true =>
    obtain ⟨m, hm, he⟩ := hit 0 (by decide)
    refine ⟨m, Nat.zero_le _, hm, ?_⟩
    rw [he, key 0 (by decide)]
    simp
  | false =>
    obtain ⟨m, hm, he⟩ := hit 12 (by decide)
    refine ⟨m, Nat.zero_le _, hm, ?_⟩
    rw [he, key 12 (by decide)]
    simp
    omega
theorem par_all {w : Nat → Int32} : ∀ k, (∀ i, i < k → r_tk w (nI i) = true) → r_par w k = k
  | 0, _ => rfl
  | k + 1, h => by
    unfold r_par
    rw [par_all k (fun i hi => h i (by omega)), h k (by omega)]
    rfl
theorem fre_ok {w : Nat → Int32} {t : Nat} (ht : t < 8) (h : ¬ r_par w 8 = 8) : r_fre w t 8 := by
  apply Classical.byContradiction
  intro hn
  refine h (par_all 8 (fun i hi => ?_))
  have hx : (t + (i + 8 - t) % 8) % 8 = i := by omega
  cases e : r_tk w (nI i) with
  | true => rfl
  | false => exact absurd ⟨(i + 8 - t) % 8, Nat.mod_lt _ (by decide), by rw [hx]; exact e⟩ hn
theorem nxt_lt {w : Nat → Int32} : ∀ n t, t < 8 → r_nxt w n t < 8
  | 0, t, h => h
  | n + 1, t, h => by
    unfold r_nxt
    split
    · exact nxt_lt n _ (Nat.mod_lt _ (by decide))
    · exact h
theorem scr_N {w : Nat → Int32} {p : Int32} (ho : o_scr w p = none) : ∃ pn, p = nI pn ∧ pn < 8 ∧ r_fre w ((pn + 1) % 8) 8 := by
  unfold o_scr at ho
  split at ho
  · cases ho
  rename_i e1
  split at ho
  · cases ho
  split at ho
  · cases ho
  rename_i e3
  obtain ⟨m, q1, q2, q3⟩ := btw_N (v := p) (lo := 0) (hi := 7) (n := 7) rfl (by simpa using e1) (by decide)
  exact ⟨m, q1, by omega, fre_ok (Nat.mod_lt _ (by decide)) e3⟩
theorem drp_N {w : Nat → Int32} {p ht : Int32} {np : Nat} (h2 : w 2 = nI np) (hn : np ≤ 10) (ho : o_drp w p ht = none) : ∃ pn hn', p = nI pn ∧ pn < np ∧ ht = nI hn' ∧ hn' ≤ 9 := by
  unfold o_drp at ho
  split at ho
  · cases ho
  rename_i e1
  split at ho
  · cases ho
  rename_i e2
  obtain ⟨pn, q1, q2⟩ := isP_N h2 hn (by simpa using e1)
  obtain ⟨m, q3, q4, q5⟩ := btw_N (v := ht) (lo := 1) (hi := 9) (n := 9) rfl (by simpa using e2) (by decide)
  exact ⟨pn, m, q1, q2, q3, q4⟩
theorem smk_N {w : Nat → Int32} {p : Int32} {np nb pn : Nat} (h2 : w 2 = nI np) (hn : np ≤ 10) (ho : o_smk w p nb pn = none) : ∃ q, p = nI q ∧ q < np := by
  unfold o_smk at ho
  split at ho
  · cases ho
  rename_i e1
  exact isP_N h2 hn (by simpa using e1)
