/-! every change keeps the row sound: clay, pieces, pipes -/
theorem inc_ok {B : Nat} {w : Nat → Int32} {h cf np nb nl pr j : Nat} {x : Int32} (hw : rokW B w h cf np nb nl pr) (h5 : 5 ≤ j) (h10 : j ≤ 10) : rokW B (upd w j x) h cf np nb nl pr := by
  refine rok_scal (w' := upd w j x) hw (fun i h1 h2 => upd_n (by omega)) ?_
  unfold rS
  rw [upd_n (by omega), upd_n (by omega), upd_n (by omega), upd_n (by omega), upd_n (by omega), upd_n (by omega)]
  exact hw.1
theorem lcm_ok {B : Nat} {w : Nat → Int32} {h cf np nb nl pr : Nat} {v : Int32} (hw : rokW B w h cf np nb nl pr) (ho : o_lump w v = none) : nl < 20 ∧ rokW B (r_lcm w v nl) h cf np nb (nl + 1) pr := by
  obtain ⟨⟨a0, a1, a2, a3, a4, a5, a6, a7, a8, a9, a10, a11⟩, hb, hl, hx, hp⟩ := hw
  unfold o_lump at ho
  split at ho
  · cases ho
  rename_i e1
  split at ho
  · cases ho
  rename_i e2
  have hn : nl < 20 := by
    rcases Nat.lt_or_ge nl 20 with q | q
    · exact q
    · exact absurd (a9.trans (by rw [show nl = 20 by omega]; rfl)) e2
  obtain ⟨m, q1, q2, q3⟩ := btw_N (v := v) (lo := 1) (hi := 20) (n := 20) rfl (by simpa using e1) (by decide)
  have q4 : 1 ≤ m := (nI_leI (a := 1) (by omega) (by omega)).mp (q1 ▸ q3)
  refine ⟨hn, ⟨?_, rB_fr hb (fun k hk => ?_), fun k hk => ?_, rX_fr hx (fun k hk => ?_), rP_fr hp (fun k h1 h2 => ?_)⟩⟩
  · unfold rS r_lcm
    rw [upd_n (by omega), upd_n (by omega), upd_n (by omega), upd_n (by omega), upd_n (by omega), upd_n (by omega), upd_n (by omega), upd_n (by omega), upd_n (by omega), upd_n (by omega), upd_n (by omega), upd_n (by omega), upd_n (show (4 : Nat) ≠ 5 by decide), upd_s, upd_n (by omega), upd_n (by omega), upd_n (by omega)]
    exact ⟨a0, a1, a2, a3, a4, a5, a6, a7, a8, rfl, by omega, a11⟩
  · unfold r_lcm
    rw [upd_n (by omega), upd_n (by omega), upd_n (by omega)]
  · by_cases e : k = nl
    · subst e
      refine ⟨m, ?_, q4, q2⟩
      unfold r_lcm
      rw [upd_n (by omega), upd_n (by omega), upd_s, q1]
    · obtain ⟨x, y⟩ := hl k (by omega)
      refine ⟨x, ?_, y.2⟩
      unfold r_lcm
      rw [upd_n (by omega), upd_n (by omega), upd_n (by omega)]
      exact y.1
  · unfold r_lcm
    rw [upd_n (by omega), upd_n (by omega), upd_n (by omega)]
  · unfold r_lcm
    rw [upd_n (by omega), upd_n (by omega), upd_n (by omega)]
theorem lgo_ok {B : Nat} {w : Nat → Int32} {h cf np nb nl pr pl : Nat} (hw : rokW B w h cf np nb nl pr) (hpl : pl < nl) : rokW B (r_lgo w nl pl) h cf np nb (nl - 1) pr := by
  obtain ⟨⟨a0, a1, a2, a3, a4, a5, a6, a7, a8, a9, a10, a11⟩, hb, hl, hx, hp⟩ := hw
  have hs : rS B (upd w 4 (nI (nl - 1))) h cf np nb (nl - 1) pr := by
    unfold rS
    rw [upd_n (by omega), upd_n (by omega), upd_n (by omega), upd_n (by omega), upd_s, upd_n (by omega)]
    exact ⟨a0, a1, a2, a3, a4, a5, a6, a7, a8, rfl, by omega, a11⟩
  have hd : ∀ j, (j < 22 ∨ 42 ≤ j) → r_lgo w nl pl j = upd w 4 (nI (nl - 1)) j := fun j hj => del_o (by omega)
  refine ⟨?_, rB_fr hb (fun k hk => ?_), fun k hk => ?_, rX_fr hx (fun k hk => ?_), rP_fr hp (fun k h1 h2 => ?_)⟩
  · unfold rS at hs ⊢
    rw [hd 0 (by omega), hd 1 (by omega), hd 2 (by omega), hd 3 (by omega), hd 4 (by omega), hd 11 (by omega)]
    exact hs
  · rw [hd _ (by omega), upd_n (by omega)]
  · obtain ⟨x, y⟩ := hl (if k < pl then k else k + 1) (by split <;> omega)
    exact ⟨x, ((del_at hk).trans (upd_n (by omega))).trans y.1, y.2⟩
  · rw [hd _ (by omega), upd_n (by omega)]
  · rw [hd _ (by omega), upd_n (by omega)]
/-- the pieces' sum as a number -/
theorem pcs_N {w : Nat → Int32} {b : Nat → Nat} (h : ∀ i, i < 7 → w (42 + i) = nI (b i)) : r_pcs w 6 = nI (b 1 + b 2 + b 3 + b 4 + b 5 + b 6) := by
  unfold r_pcs r_pcs r_pcs r_pcs r_pcs r_pcs r_pcs
  rw [h 1 (by decide), h 2 (by decide), h 3 (by decide), h 4 (by decide), h 5 (by decide), h 6 (by decide)]
  rw [show (0 : Int32) = nI 0 from rfl, nI_add, nI_add, nI_add, nI_add, nI_add, nI_add, Nat.zero_add]
theorem seven {i : Nat} (h : i < 7) : i = 0 ∨ i = 1 ∨ i = 2 ∨ i = 3 ∨ i = 4 ∨ i = 5 ∨ i = 6 := by omega
theorem rX_inc {w w' : Nat → Int32} {i : Nat} (hx : rX w) (h1 : 1 ≤ i) (h7 : i < 7) (hs : ¬ r_pcs w 6 = 24) (e : w' (42 + i) = w (42 + i) + 1) (e2 : ∀ j, j < 7 → j ≠ i → w' (42 + j) = w (42 + j)) : rX w' := by
  obtain ⟨b, b1, b2, b3⟩ := hx
  rw [pcs_N b1] at hs
  have hs' : b 1 + b 2 + b 3 + b 4 + b 5 + b 6 ≠ 24 := fun q => hs (by rw [q]; rfl)
  refine ⟨fun j => if j = i then b i + 1 else b j, fun j hj => ?_, ?_, ?_⟩
  · show w' (42 + j) = nI (if j = i then b i + 1 else b j)
    by_cases q : j = i
    · subst q
      rw [if_pos rfl, e, b1 j hj, nI_1]
    · rw [if_neg q, e2 j hj q, b1 j hj]
  · show (if 0 = i then b i + 1 else b 0) = 0
    rw [if_neg (by omega)]
    exact b2
  · rcases seven h7 with rfl | rfl | rfl | rfl | rfl | rfl | rfl <;> simp <;> omega
theorem rX_dec {w w' : Nat → Int32} {i : Nat} (hx : rX w) (h1 : 1 ≤ i) (h7 : i < 7) (hs : 0 < w (42 + i)) (e : w' (42 + i) = w (42 + i) - 1) (e2 : ∀ j, j < 7 → j ≠ i → w' (42 + j) = w (42 + j)) : rX w' ∧ ¬ r_pcs w' 6 = 24 := by
  obtain ⟨b, b1, b2, b3⟩ := hx
  have hb : b i ≤ 24 := by rcases seven h7 with rfl | rfl | rfl | rfl | rfl | rfl | rfl <;> omega
  rw [b1 i h7] at hs
  have hp : 0 < b i := (nI_ltI (a := 0) (by omega) (by omega)).mp hs
  have hb1 : ∀ j, j < 7 → w' (42 + j) = nI ((fun j => if j = i then b i - 1 else b j) j) := fun j hj => by
    show w' (42 + j) = nI (if j = i then b i - 1 else b j)
    by_cases q : j = i
    · subst q
      obtain ⟨m, hm⟩ : ∃ m, b j = m + 1 := ⟨b j - 1, by omega⟩
      rw [if_pos rfl, e, b1 j hj, hm, nI_pred]
      rfl
    · rw [if_neg q, e2 j hj q, b1 j hj]
  have hsum : (fun j => if j = i then b i - 1 else b j) 1 + (fun j => if j = i then b i - 1 else b j) 2 + (fun j => if j = i then b i - 1 else b j) 3 + (fun j => if j = i then b i - 1 else b j) 4 + (fun j => if j = i then b i - 1 else b j) 5 + (fun j => if j = i then b i - 1 else b j) 6 < 24 := by
    rcases seven h7 with rfl | rfl | rfl | rfl | rfl | rfl | rfl <;> simp <;> omega
  have h00 : (fun j => if j = i then b i - 1 else b j) 0 = 0 := by
    show (if 0 = i then b i - 1 else b 0) = 0
    rw [if_neg (by omega)]
    exact b2
  revert hb1 hsum h00
  generalize (fun j => if j = i then b i - 1 else b j) = b'
  intro hb1 hsum h00
  refine ⟨⟨b', hb1, h00, Nat.le_of_lt hsum⟩, ?_⟩
  rw [pcs_N hb1]
  intro q
  have := (nI_eq (b := 24) (by omega) (by omega)).mp q
  omega
theorem box_ok {B : Nat} {w w' : Nat → Int32} {h cf np nb nl pr : Nat} (hw : rokW B w h cf np nb nl pr) (e : ∀ j, j < 42 ∨ 49 ≤ j → w' j = w j) (hx : rX w') : rokW B w' h cf np nb nl pr := by
  obtain ⟨hs, hb, hl, -, hp⟩ := hw
  have hnb : nb ≤ 10 := hs.2.2.2.2.2.2.2.2.1
  have hnl : nl ≤ 20 := hs.2.2.2.2.2.2.2.2.2.2.1
  refine ⟨?_, rB_fr hb (fun k hk => e _ (by omega)), rL_fr hl (fun k hk => e _ (by omega)), hx, rP_fr hp (fun k h1 h2 => e _ (by omega))⟩
  unfold rS at hs ⊢
  rw [e 0 (by omega), e 1 (by omega), e 2 (by omega), e 3 (by omega), e 4 (by omega), e 11 (by omega)]
  exact hs
theorem pcm_ok {B : Nat} {w : Nat → Int32} {h cf np nb nl pr i : Nat} (hw : rokW B w h cf np nb nl pr) (h1 : 1 ≤ i) (h7 : i < 7) (hs : ¬ r_pcs w 6 = 24) : rokW B (r_pcm w i) h cf np nb nl pr := by
  refine box_ok hw (fun j hj => upd_n (by omega)) (rX_inc hw.2.2.2.1 h1 h7 hs upd_s (fun j hj hn => upd_n (by omega)))
theorem piece_N {w : Nat → Int32} {v : Int32} (ho : o_piece w v = none) : ∃ i, v = nI i ∧ 1 ≤ i ∧ i < 7 ∧ ¬ r_pcs w 6 = 24 := by
  unfold o_piece at ho
  split at ho
  · cases ho
  rename_i e1
  split at ho
  · cases ho
  rename_i e2
  obtain ⟨m, q1, q2, q3⟩ := btw_N (v := v) (lo := 1) (hi := 6) (n := 6) rfl (by simpa using e1) (by decide)
  exact ⟨m, q1, (nI_leI (a := 1) (by omega) (by omega)).mp (q1 ▸ q3), by omega, e2⟩
/-- a change of pipe p's numbers alone -/
theorem pipe_ok {B : Nat} {w w' : Nat → Int32} {h cf np nb nl pr p : Nat} (hw : rokW B w h cf np nb nl pr) (hp : p < np) (e : ∀ j, (j < 49 + 5 * p ∨ 49 + 5 * p + 5 ≤ j) → w' j = w j) (h0 : ∃ s, pw w' p 0 = nI s ∧ s ≤ 12) (h1 : ∃ c, pw w' p 1 = nI c ∧ c ≤ 9) (h2 : ∃ t, pw w' p 2 = nI t ∧ t ≤ 9) : rokW B w' h cf np nb nl pr := by
  obtain ⟨hs, hb, hl, hx, hq⟩ := hw
  have hnb : nb ≤ 10 := hs.2.2.2.2.2.2.2.2.1
  have hnl : nl ≤ 20 := hs.2.2.2.2.2.2.2.2.2.2.1
  refine ⟨?_, rB_fr hb (fun k hk => e _ (by omega)), rL_fr hl (fun k hk => e _ (by omega)), rX_fr hx (fun k hk => e _ (by omega)), ?_, ?_⟩
  · unfold rS at hs ⊢
    rw [e 0 (by omega), e 1 (by omega), e 2 (by omega), e 3 (by omega), e 4 (by omega), e 11 (by omega)]
    exact hs
  · intro q hq1
    by_cases g : q = p
    · subst g
      exact ⟨h0, h1, h2⟩
    · have ee : ∀ j, j < 5 → pw w' q j = pw w q j := fun j hj => e _ (by omega)
      rw [ee 0 (by decide), ee 1 (by decide), ee 2 (by decide)]
      exact hq.1 q hq1
  · intro q j h1 h2 h3
    exact (e _ (by omega)).trans (hq.2 q j h1 h2 h3)
theorem pip_ok {B : Nat} {w : Nat → Int32} {h cf np nb nl pr : Nat} {s c : Int32} (hw : rokW B w h cf np nb nl pr) (ho : o_pipe w s c = none) : np < 10 ∧ rokW B (r_pip w s c np) h cf (np + 1) nb nl pr := by
  unfold o_pipe at ho
  split at ho
  · cases ho
  rename_i e1
  split at ho
  · cases ho
  rename_i e2
  split at ho
  · cases ho
  rename_i e3
  obtain ⟨hs, hb, hl, hx, hq⟩ := hw
  have hs0 := hs
  obtain ⟨a0, a1, a2, a3, a4, a5, a6, a7, a8, a9, a10, a11⟩ := hs
  have hn : np < 10 := by
    rcases Nat.lt_or_ge np 10 with q | q
    · exact q
    · exact absurd (a5.trans (by rw [show np = 10 by omega]; rfl)) e3
  obtain ⟨m, q1, q2, q3⟩ := btw_N (v := s) (lo := 1) (hi := 12) (n := 12) rfl (by simpa using e1) (by decide)
  obtain ⟨m', q4, q5, q6⟩ := btw_N (v := c) (lo := 0) (hi := 9) (n := 9) rfl (by simpa using e2) (by decide)
  have hw1 : rokW B (upd w 2 (nI (np + 1))) h cf (np + 1) nb nl pr := by
    refine ⟨?_, ?_, rL_fr hl (fun k hk => upd_n (by omega)), rX_fr hx (fun k hk => upd_n (by omega)), ?_⟩
    · unfold rS
      rw [upd_n (by omega), upd_n (by omega), upd_s, upd_n (by omega), upd_n (by omega), upd_n (by omega)]
      exact ⟨a0, a1, a2, a3, a4, rfl, by omega, a7, a8, a9, a10, a11⟩
    · obtain ⟨f, f1, f2⟩ := rB_fr (w' := upd w 2 (nI (np + 1))) hb (fun k hk => upd_n (by omega))
      exact ⟨f, fun k hk => ⟨(f1 k hk).1, by have := (f1 k hk).2; omega⟩, f2⟩
    · have h9 := rP_fr (w' := upd w 2 (nI (np + 1))) hq (fun k h1 h2 => upd_n (by omega))
      exact ⟨h9.1, fun p j h1 h2 h3 => h9.2 p j (by omega) h2 h3⟩
  refine ⟨hn, pipe_ok (p := np) hw1 (by omega) (fun j hj => ?_) ⟨m, ?_, q2⟩ ⟨m', ?_, q5⟩ ⟨0, ?_, by decide⟩⟩
  · unfold r_pip
    rw [upd_n (by omega), upd_n (by omega)]
  · unfold r_pip pw
    rw [upd_n (by omega), upd_s, q1]
  · unfold r_pip pw
    rw [upd_s, q4]
  · unfold r_pip pw
    rw [upd_n (by omega), upd_n (by omega), upd_n (by omega)]
    exact hq.2 np 2 (Nat.le_refl _) (by omega) (by decide)
