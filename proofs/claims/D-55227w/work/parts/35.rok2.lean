/-! THE ROW IS SOUND: what holds of the row always; every change keeps it -/
def rB (w : Nat → Int32) (np nb : Nat) : Prop := ∃ f : Nat → Nat, (∀ k, k < nb → w (12 + k) = nI (f k) ∧ f k < np) ∧ (∀ i j, i < nb → j < nb → f i = f j → i = j)
def rL (w : Nat → Int32) (nl : Nat) : Prop := ∀ k, k < nl → ∃ m, w (22 + k) = nI m ∧ 1 ≤ m ∧ m ≤ 20
def rX (w : Nat → Int32) : Prop := ∃ b : Nat → Nat, (∀ i, i < 7 → w (42 + i) = nI (b i)) ∧ b 0 = 0 ∧ b 1 + b 2 + b 3 + b 4 + b 5 + b 6 ≤ 24
def rP (w : Nat → Int32) (np : Nat) : Prop := (∀ p, p < 10 → (∃ s, pw w p 0 = nI s ∧ s ≤ 12) ∧ (∃ c, pw w p 1 = nI c ∧ c ≤ 9) ∧ (∃ t, pw w p 2 = nI t ∧ t ≤ 9)) ∧ (∀ p j, np ≤ p → p < 10 → j < 5 → pw w p j = 0)
def rS (B : Nat) (w : Nat → Int32) (h cf np nb nl pr : Nat) : Prop := w 0 = nI h ∧ h ≤ B ∧ w 1 = nI cf ∧ 18 ≤ cf ∧ cf ≤ 23 ∧ w 2 = nI np ∧ np ≤ 10 ∧ w 3 = nI nb ∧ nb ≤ 10 ∧ w 4 = nI nl ∧ nl ≤ 20 ∧ w 11 = nI pr ∧ pr < 256
def rokW (B : Nat) (w : Nat → Int32) (h cf np nb nl pr : Nat) : Prop := rS B w h cf np nb nl pr ∧ rB w np nb ∧ rL w nl ∧ rX w ∧ rP w np
def rok (B : Nat) (w : Nat → Int32) : Prop := ∃ h cf np nb nl pr, rokW B w h cf np nb nl pr
theorem rB_fr {w w' : Nat → Int32} {np nb : Nat} (h : rB w np nb) (e : ∀ k, k < nb → w' (12 + k) = w (12 + k)) : rB w' np nb := by
  obtain ⟨f, h1, h2⟩ := h
  exact ⟨f, fun k hk => ⟨(e k hk).trans (h1 k hk).1, (h1 k hk).2⟩, h2⟩
theorem rL_fr {w w' : Nat → Int32} {nl : Nat} (h : rL w nl) (e : ∀ k, k < nl → w' (22 + k) = w (22 + k)) : rL w' nl := by
  intro k hk
  obtain ⟨m, h1, h2⟩ := h k hk
  exact ⟨m, (e k hk).trans h1, h2⟩
theorem rX_fr {w w' : Nat → Int32} (h : rX w) (e : ∀ k, k < 7 → w' (42 + k) = w (42 + k)) : rX w' := by
  obtain ⟨b, h1, h2⟩ := h
  exact ⟨b, fun i hi => (e i hi).trans (h1 i hi), h2⟩
theorem rP_fr {w w' : Nat → Int32} {np : Nat} (h : rP w np) (e : ∀ k, 49 ≤ k → k < 99 → w' k = w k) : rP w' np := by
  have ep : ∀ p j, p < 10 → j < 5 → pw w' p j = pw w p j := fun p j hp hj => e _ (by omega) (by omega)
  refine ⟨fun p hp => ?_, fun p j h1 h2 h3 => (ep p j h2 h3).trans (h.2 p j h1 h2 h3)⟩
  rw [ep p 0 hp (by decide), ep p 1 hp (by decide), ep p 2 hp (by decide)]
  exact h.1 p hp
theorem rok_scal {B B' : Nat} {w w' : Nat → Int32} {h cf np nb nl pr : Nat} (hw : rokW B w h cf np nb nl pr) (e : ∀ j, 12 ≤ j → j < 99 → w' j = w j) {h' cf' pr' : Nat} (hs : rS B' w' h' cf' np nb nl pr') : rokW B' w' h' cf' np nb nl pr' := by
  obtain ⟨-, hb, hl, hx, hp⟩ := hw
  have hnb : nb ≤ 10 := hs.2.2.2.2.2.2.2.2.1
  have hnl : nl ≤ 20 := hs.2.2.2.2.2.2.2.2.2.2.1
  exact ⟨hs, rB_fr hb (fun k hk => e _ (by omega) (by omega)), rL_fr hl (fun k hk => e _ (by omega) (by omega)), rX_fr hx (fun k hk => e _ (by omega) (by omega)), rP_fr hp (fun k h1 h2 => e _ (by omega) h2)⟩
theorem rok_h {B : Nat} {w : Nat → Int32} (h : rok B w) {B' : Nat} (hB : B ≤ B') : rok B' w := by
  obtain ⟨h, cf, np, nb, nl, pr, ⟨h1, h2, h3⟩, h4⟩ := h
  exact ⟨h, cf, np, nb, nl, pr, ⟨h1, by omega, h3⟩, h4⟩
theorem btw_N {v lo hi : Int32} {n : Nat} (hM : hi.toInt = n) (h : btw v lo hi = true) (h0 : 0 ≤ lo) : ∃ m, v = nI m ∧ m ≤ n ∧ lo ≤ v := by
  unfold btw at h
  rw [Bool.and_eq_true, decide_eq_true_eq, decide_eq_true_eq] at h
  obtain ⟨j, h1, h2⟩ := nI_of2 hM (fun e => absurd (Int32.lt_of_lt_of_le e (Int32.le_trans h0 h.1)) Int32.lt_irrefl) h.2
  exact ⟨j, h2, h1, h.1⟩
theorem isP_N {w : Nat → Int32} {p : Int32} {np : Nat} (h2 : w 2 = nI np) (hn : np ≤ 10) (h : isP w p = true) : ∃ pn, p = nI pn ∧ pn < np := by
  unfold isP at h
  rw [h2] at h
  cases np with
  | zero =>
    unfold btw at h
    rw [Bool.and_eq_true, decide_eq_true_eq, decide_eq_true_eq] at h
    exact absurd (Int32.le_trans h.1 h.2) (by decide)
  | succ n =>
    rw [nI_pred] at h
    obtain ⟨m, e1, e2, e3⟩ := btw_N (n := n) (nI_toInt (by omega)) h (by decide)
    exact ⟨m, e1, by omega⟩
theorem cur_ok {B : Nat} {w : Nat → Int32} {h cf np nb nl pr : Nat} {v : Int32} (hw : rokW B w h cf np nb nl pr) (ho : o_cur v = none) : ∃ c, rokW B (upd w 1 v) h c np nb nl pr := by
  unfold o_cur at ho
  split at ho
  · cases ho
  · rename_i e
    obtain ⟨c, e1, e2, e3⟩ := btw_N (v := v) (lo := 18) (hi := 23) (n := 23) rfl (by simpa using e) (by decide)
    rw [e1] at e3
    have e4 : 18 ≤ c := (nI_leI (a := 18) (by omega) (by omega)).mp e3
    obtain ⟨a0, a1, a2, a3, a4, a5⟩ := hw.1
    exact ⟨c, rok_scal hw (fun j h1 h2 => upd_n (by omega)) ⟨a0, a1, e1, e4, e2, a5⟩⟩
theorem tk_N {w : Nat → Int32} {pr p : Nat} (h : w 11 = nI pr) (hp : pr < 256) (h8 : p < 8) : r_tk w (nI p) = pr.testBit p := by
  have : ∀ pr, pr < 256 → ∀ p, p < 8 → decide ((nI pr >>> (nI p &&& 31)) &&& 1 = 1) = pr.testBit p := by decide +kernel
  unfold r_tk
  rw [h]
  exact this pr hp p h8
theorem set_N {pr p : Nat} (hp : pr < 256) (h8 : p < 8) : nI pr ||| ((1 : Int32) <<< (nI p &&& 31)) = nI (pr ||| 2 ^ p) ∧ pr ||| 2 ^ p < 256 := by
  have : ∀ pr, pr < 256 → ∀ p, p < 8 → nI pr ||| ((1 : Int32) <<< (nI p &&& 31)) = nI (pr ||| 2 ^ p) ∧ pr ||| 2 ^ p < 256 := by decide +kernel
  exact this pr hp p h8
theorem clr_N {pr p : Nat} (hp : pr < 256) (h8 : p < 8) : nI pr &&& (((1 : Int32) <<< (nI p &&& 31)) ^^^ (-1 : Int32)) = nI (pr &&& (255 ^^^ 2 ^ p)) ∧ pr &&& (255 ^^^ 2 ^ p) < 256 := by
  have : ∀ pr, pr < 256 → ∀ p, p < 8 → nI pr &&& (((1 : Int32) <<< (nI p &&& 31)) ^^^ (-1 : Int32)) = nI (pr &&& (255 ^^^ 2 ^ p)) ∧ pr &&& (255 ^^^ 2 ^ p) < 256 := by decide +kernel
  exact this pr hp p h8
/-- numbers below n that differ are no more than n -/
theorem pig : ∀ (n m : Nat) (f : Nat → Nat), (∀ i, i < m → f i < n) → (∀ i j, i < m → j < m → f i = f j → i = j) → m ≤ n
  | 0, m, f, h1, _ => by
    rcases Nat.eq_zero_or_pos m with e | e
    · omega
    · exact absurd (h1 0 e) (by omega)
  | n + 1, m, f, h1, h2 => by
    by_cases hx : ∃ i, i < m ∧ f i = n
    · obtain ⟨i, hi, hf⟩ := hx
      have h3 := pig n (m - 1) (fun j => f (if j = i then m - 1 else j)) (fun j hj => ?_) (fun j k hj hk e => ?_)
      · omega
      · show f (if j = i then m - 1 else j) < n
        have hlt : (if j = i then m - 1 else j) < m := by split <;> omega
        have := h1 _ hlt
        rcases Nat.lt_or_ge (f (if j = i then m - 1 else j)) n with q | q
        · exact q
        · have e := h2 _ i hlt hi (by omega)
          split at e <;> omega
      · have hlj : (if j = i then m - 1 else j) < m := by split <;> omega
        have hlk : (if k = i then m - 1 else k) < m := by split <;> omega
        have e := h2 _ _ hlj hlk e
        split at e <;> split at e <;> omega
    · have h3 := pig n m f (fun i hi => ?_) h2
      · omega
      · have := h1 i hi
        rcases Nat.lt_or_ge (f i) n with q | q
        · exact q
        · exact absurd ⟨i, hi, by omega⟩ hx
theorem find_no {w : Nat → Int32} {p : Int32} : ∀ (n k : Nat), k + n < 2 ^ 31 → r_find w p n k < 0 → ∀ i, k ≤ i → i < k + n → w (12 + i) ≠ p
  | 0, k, _, _, i, h1, h2 => absurd h1 (by omega)
  | n + 1, k, hb, h, i, h1, h2 => by
    unfold r_find at h
    split at h
    · exact absurd h (nI_pos (by omega))
    · rename_i e
      rcases Nat.eq_or_lt_of_le h1 with q | q
      · subst q
        exact e
      · exact find_no n (k + 1) (by omega) h i q (by omega)
theorem find_at {w : Nat → Int32} {p : Int32} : ∀ (n k : Nat), ¬ r_find w p n k < 0 → ∃ i, r_find w p n k = nI i ∧ k ≤ i ∧ i < k + n ∧ w (12 + i) = p
  | 0, k, h => absurd (show (-1 : Int32) < 0 by decide) h
  | n + 1, k, h => by
    unfold r_find at h ⊢
    split
    · rename_i e
      exact ⟨k, rfl, Nat.le_refl _, by omega, e⟩
    · rename_i e
      rw [if_neg e] at h
      obtain ⟨i, h1, h2, h3, h4⟩ := find_at n (k + 1) h
      exact ⟨i, h1, by omega, by omega, h4⟩
theorem rB_push {w w' : Nat → Int32} {np nb p : Nat} (h : rB w np nb) (hp : p < np) (hn : ∀ i, i < nb → w (12 + i) ≠ nI p) (e : ∀ k, k < nb → w' (12 + k) = w (12 + k)) (e2 : w' (12 + nb) = nI p) : rB w' np (nb + 1) := by
  obtain ⟨f, h1, h2⟩ := h
  have hne : ∀ i, i < nb → f i ≠ p := fun i hi q => hn i hi (by rw [(h1 i hi).1, q])
  refine ⟨fun k => if k = nb then p else f k, fun k hk => ?_, fun i j hi hj he => ?_⟩
  · show w' (12 + k) = nI (if k = nb then p else f k) ∧ (if k = nb then p else f k) < np
    by_cases q : k = nb
    · subst q
      rw [if_pos rfl]
      exact ⟨e2, hp⟩
    · rw [if_neg q]
      obtain ⟨a, b⟩ := h1 k (by omega)
      exact ⟨(e k (by omega)).trans a, b⟩
  · have he : (if i = nb then p else f i) = (if j = nb then p else f j) := he
    by_cases q1 : i = nb <;> by_cases q2 : j = nb
    · omega
    · rw [if_pos q1, if_neg q2] at he
      exact absurd he.symm (hne j (by omega))
    · rw [if_neg q1, if_pos q2] at he
      exact absurd he (hne i (by omega))
    · rw [if_neg q1, if_neg q2] at he
      exact h2 i j (by omega) (by omega) he
theorem rB_le {w : Nat → Int32} {np nb : Nat} (h : rB w np nb) : nb ≤ np := by
  obtain ⟨f, h1, h2⟩ := h
  exact pig np nb f (fun i hi => (h1 i hi).2) h2
theorem brg_ok {B : Nat} {w : Nat → Int32} {h cf np nb nl pr : Nat} {p : Int32} (hw : rokW B w h cf np nb nl pr) (ho : o_bring w p nb = none) : nb < 10 ∧ rokW B (r_brg w p nb) h cf np (nb + 1) nl pr := by
  obtain ⟨⟨a0, a1, a2, a3, a4, a5, a6, a7, a8, a9⟩, hb, hl, hx, hp⟩ := hw
  unfold o_bring at ho
  split at ho
  · cases ho
  rename_i e1
  split at ho
  · rename_i e2
    obtain ⟨pn, rfl, hpn⟩ := isP_N a5 a6 (by simpa using e1)
    have hno := find_no nb 0 (by omega) e2
    have hb' : ∀ w', (∀ k, k < nb → w' (12 + k) = w (12 + k)) → w' (12 + nb) = nI pn → rB w' np (nb + 1) := fun w' x y => rB_push hb hpn (fun i hi => hno i (Nat.zero_le _) (by omega)) x y
    have h9 : nb < 10 := by
      have := rB_le (hb' (upd w (12 + nb) (nI pn)) (fun k hk => upd_n (by omega)) upd_s)
      omega
    refine ⟨h9, ⟨?_, hb' _ (fun k hk => ?_) ?_, rL_fr hl (fun k hk => ?_), rX_fr hx (fun k hk => ?_), rP_fr hp (fun k h1 h2 => ?_)⟩⟩
    · unfold r_brg rS
      rw [upd_n (by omega), upd_n (by omega), upd_n (by omega), upd_n (by omega), upd_n (by omega), upd_n (by omega), upd_s, upd_n (by omega), upd_n (by omega), upd_n (by omega), upd_n (by omega)]
      exact ⟨a0, a1, a2, a3, a4, a5, a6, rfl, by omega, a9⟩
    · unfold r_brg
      rw [upd_n (by omega), upd_n (by omega)]
    · unfold r_brg
      rw [upd_n (by omega), upd_s]
    · unfold r_brg
      rw [upd_n (by omega), upd_n (by omega)]
    · unfold r_brg
      rw [upd_n (by omega), upd_n (by omega)]
    · unfold r_brg
      rw [upd_n (by omega), upd_n (by omega)]
  · cases ho
theorem rB_del {w w' : Nat → Int32} {np nb pl : Nat} (h : rB w np nb) (hpl : pl < nb) (e : ∀ k, k < nb - 1 → w' (12 + k) = w (12 + (if k < pl then k else k + 1))) : rB w' np (nb - 1) := by
  obtain ⟨f, h1, h2⟩ := h
  refine ⟨fun k => f (if k < pl then k else k + 1), fun k hk => ?_, fun i j hi hj he => ?_⟩
  · show w' (12 + k) = nI (f (if k < pl then k else k + 1)) ∧ f (if k < pl then k else k + 1) < np
    have hq : (if k < pl then k else k + 1) < nb := by split <;> omega
    obtain ⟨a, b⟩ := h1 _ hq
    exact ⟨(e k hk).trans a, b⟩
  · have hi' : (if i < pl then i else i + 1) < nb := by split <;> omega
    have hj' : (if j < pl then j else j + 1) < nb := by split <;> omega
    have e := h2 _ _ hi' hj' he
    split at e <;> split at e <;> omega
theorem del_at {w : Nat → Int32} {b n pl k : Nat} (hk : k < n - 1) : r_del w b n pl (b + k) = w (b + (if k < pl then k else k + 1)) := by
  unfold r_del
  by_cases q : k < pl
  · rw [if_neg (by omega), if_neg (by omega), if_pos q]
  · rw [if_pos (by omega), if_neg q]
    rfl
theorem del_o {w : Nat → Int32} {b n pl j : Nat} (hj : j < b ∨ b + (n - 1) < j) : r_del w b n pl j = w j := by
  unfold r_del
  rw [if_neg (by omega), if_neg (by omega)]
theorem lvb_ok {B : Nat} {w : Nat → Int32} {h cf np nb nl pr pl : Nat} (hw : rokW B w h cf np nb nl pr) (hpl : pl < nb) : rokW B (r_lvb w nb pl) h cf np (nb - 1) nl pr := by
  obtain ⟨⟨a0, a1, a2, a3, a4, a5, a6, a7, a8, a9⟩, hb, hl, hx, hp⟩ := hw
  have hs : rS B (upd w 3 (nI (nb - 1))) h cf np (nb - 1) nl pr := by
    unfold rS
    rw [upd_n (by omega), upd_n (by omega), upd_n (by omega), upd_s, upd_n (by omega), upd_n (by omega)]
    exact ⟨a0, a1, a2, a3, a4, a5, a6, rfl, by omega, a9⟩
  have hd : ∀ j, (j < 12 ∨ 22 ≤ j) → r_lvb w nb pl j = upd w 3 (nI (nb - 1)) j := fun j hj => del_o (by omega)
  refine ⟨?_, rB_del hb hpl (fun k hk => ?_), rL_fr hl (fun k hk => ?_), rX_fr hx (fun k hk => ?_), rP_fr hp (fun k h1 h2 => ?_)⟩
  · unfold rS at hs ⊢
    rw [hd 0 (by omega), hd 1 (by omega), hd 2 (by omega), hd 3 (by omega), hd 4 (by omega), hd 11 (by omega)]
    exact hs
  · refine (del_at hk).trans (upd_n (by omega))
  · rw [hd _ (by omega), upd_n (by omega)]
  · rw [hd _ (by omega), upd_n (by omega)]
  · rw [hd _ (by omega), upd_n (by omega)]
