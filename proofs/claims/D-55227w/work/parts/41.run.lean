/-! THE RUN OF A TEXT -/
def x_do (f : Nat → Int32) (len : Nat) : Nat → Tx → (Nat → Int32) → Nat → Bool × Tx × (Nat → Int32) × Nat × Why
  | 0, t, w, d => (false, t, w, d, none)
  | n + 1, t, w, d => if (tx_or f len t).1 = true then
      (match o_now w (tx_or f len t).2.2.1 ((tx_or f len t).2.2.2 0) ((tx_or f len t).2.2.2 1) with
      | some y => (false, (tx_or f len t).2, w, d, some y)
      | none => if (tx_rd f len 59 (tx_or f len t).2).1 = true then x_do f len n (tx_rd f len 59 (tx_or f len t).2).2 (d_now w (tx_or f len t).2.2.1 ((tx_or f len t).2.2.2 0) ((tx_or f len t).2.2.2 1)) (d + 1)
        else (true, (tx_or f len t).2, d_now w (tx_or f len t).2.2.1 ((tx_or f len t).2.2.2 0) ((tx_or f len t).2.2.2 1), d + 1, none))
    else (false, (tx_or f len t).2, w, d, none)
theorem tS_id {S : Nat → Int32} {a : Nat} {nu : Nat → Int32} (h : S 16 = nI a) : tS S (a, S 19, nu) = S := by
  unfold tS
  rw [← h, upd_same, upd_same]
theorem tF_id {F : Nat → Nat → Int32} {a : Nat} {so : Int32} : tF F (a, so, F 18) = F := upA_id _ _
theorem tS_o {S : Nat → Int32} {t : Tx} {j : Nat} {x : Int32} (h6 : j ≠ 16) (h9 : j ≠ 19) : upd (tS S t) j x = tS (upd S j x) t := by
  unfold tS
  rw [upd_comm _ _ _ (show (19 : Nat) ≠ j from fun e => h9 e.symm), upd_comm _ _ _ (show (16 : Nat) ≠ j from fun e => h6 e.symm)]
theorem tS_nS {S : Nat → Int32} {t : Tx} {o : Why} : nS (tS S t) o = tS (nS S o) t := by
  cases o with
  | none => rfl
  | some y =>
    obtain ⟨a, b, c, d⟩ := y
    show upd (upd (upd (upd (tS S t) 3 a) 4 b) 5 c) 6 d = tS (upd (upd (upd (upd S 3 a) 4 b) 5 c) 6 d) t
    rw [tS_o (by decide) (by decide), tS_o (by decide) (by decide), tS_o (by decide) (by decide), tS_o (by decide) (by decide)]
def dS (S : Nat → Int32) (d : Nat) : Nat → Int32 := upd S 20 (nI d)
theorem dS_s {S : Nat → Int32} {d e : Nat} : upd (dS S d) 20 (nI e) = dS S e := upd_upd _ _ _ _
theorem dS_0 {S : Nat → Int32} : upd S 20 0 = dS S 0 := rfl
theorem upA_comm {F : Nat → Nat → Int32} {i j : Nat} {x y : Nat → Int32} (h : i ≠ j) : upA (upA F i x) j y = upA (upA F j y) i x := by
  funext k
  unfold upA
  by_cases h1 : k = i
  · by_cases h2 : k = j
    · exact absurd (h1.symm.trans h2) h
    · rw [if_neg h2, if_pos h1, if_pos h1]
  · by_cases h2 : k = j
    · rw [if_pos h2, if_neg h1, if_pos h2]
    · rw [if_neg h2, if_neg h1, if_neg h1, if_neg h2]
theorem tF_o {F : Nat → Nat → Int32} {t : Tx} {j : Nat} {x : Nat → Int32} (h : j ≠ 18) : upA (tF F t) j x = tF (upA F j x) t := upA_comm (fun e => h e.symm)
theorem nS_o {S : Nat → Int32} {o : Why} {j : Nat} (h3 : j ≠ 3) (h4 : j ≠ 4) (h5 : j ≠ 5) (h6 : j ≠ 6) : nS S o j = S j := by
  cases o with
  | none => rfl
  | some y =>
    obtain ⟨a, b, c, d⟩ := y
    show upd (upd (upd (upd S 3 a) 4 b) 5 c) 6 d j = _
    rw [upd_n h6, upd_n h5, upd_n h4, upd_n h3]
theorem kmS_o {S : Nat → Int32} {c f j : Nat} (h1 : j ≠ 11) (h2 : j ≠ 12) : m_kmS S c f j = S j := by
  unfold m_kmS
  split
  · rw [upd_n h1, upd_n h2]
  · rw [upd_n h1]
theorem now_hi {B : Nat} {w : Nat → Int32} (hB : B < 2 ^ 29) (h : rok B w) {so x y : Int32} (ho : o_now w so x y = none) {k : Nat} (hk : 99 ≤ k) : d_now w so x y k = w k := by
  have hB' : B < 2 ^ 30 := by omega
  obtain ⟨d0, d1, d2, d3, d4, d5, d6, d7⟩ := rok_D hB' h
  unfold o_now at ho
  unfold d_now
  split
  · unfold r_brg
    rw [upd_n (by omega), upd_n (by omega)]
  rename_i n0
  rw [if_neg n0] at ho
  split
  · rename_i e
    rw [if_pos e] at ho
    unfold o_mend at ho
    split at ho
    · cases ho
    rename_i h3
    split at ho
    · obtain ⟨⟨m1, m2, -⟩, -⟩ := rok_men hB' h h3 ho
      exact men_99 m2 (rok_1st hB' h h3).2.1 d5 d7 hk
    · cases ho
  rename_i n1
  rw [if_neg n1] at ho
  split
  · rename_i e
    rw [if_pos e] at ho
    obtain ⟨q, q1, q2⟩ := smk_N d2 d3 ho
    rw [pN_of q1 (by omega)]
    exact smk_o (by omega) (by omega) (by omega) (by omega)
  rename_i n2
  rw [if_neg n2] at ho
  split
  · unfold r_lcm
    rw [upd_n (by omega), upd_n (by omega), upd_n (by omega)]
  rename_i n3
  rw [if_neg n3] at ho
  split
  · rename_i e
    rw [if_pos e] at ho
    obtain ⟨i, q1, q2, q3, q4⟩ := piece_N ho
    rw [pN_of q1 (by omega)]
    exact upd_n (by omega)
  rename_i n4
  rw [if_neg n4] at ho
  split
  · exact upd_n (by omega)
  rename_i n5
  rw [if_neg n5] at ho
  split
  · rename_i e
    rw [if_pos e] at ho
    obtain ⟨q, r, q1, q2, q3, q4⟩ := drp_N d2 d3 ho
    rw [pN_of q1 (by omega)]
    unfold r_drp r_dr1
    rw [upd_n (by omega), upd_n (by omega)]
  rename_i n6
  rw [if_neg n6] at ho
  exact pass_hi d0 d6 d7 hk _
theorem do_hi {f : Nat → Int32} {len k : Nat} (hk : 99 ≤ k) : ∀ (n : Nat) (t : Tx) (w : Nat → Int32) (d B : Nat), rok B w → B + 48 * n < 2 ^ 29 → (x_do f len n t w d).2.2.1 k = w k
  | 0, _, _, _, _, _, _ => rfl
  | n + 1, t, w, d, B, h, hB => by
    unfold x_do
    split
    · cases ho : o_now w (tx_or f len t).2.2.1 ((tx_or f len t).2.2.2 0) ((tx_or f len t).2.2.2 1) with
      | some y => rfl
      | none =>
        show (if (tx_rd f len 59 (tx_or f len t).2).1 = true then _ else _ : Bool × Tx × (Nat → Int32) × Nat × Why).2.2.1 k = w k
        split
        · exact (do_hi hk n _ _ _ (B + 48) (rok_now (by omega) h ho) (by omega)).trans (now_hi (by omega) h ho hk)
        · exact now_hi (by omega) h ho hk
    · rfl
theorem do_ok {f : Nat → Int32} {len : Nat} : ∀ (n : Nat) (t : Tx) (w : Nat → Int32) (d B : Nat), rok B w → B + 48 * n < 2 ^ 29 → rok (B + 48 * n) (x_do f len n t w d).2.2.1
  | 0, _, _, _, _, h, _ => h
  | n + 1, t, w, d, B, h, hB => by
    unfold x_do
    split
    · cases ho : o_now w (tx_or f len t).2.2.1 ((tx_or f len t).2.2.2 0) ((tx_or f len t).2.2.2 1) with
      | some y => exact rok_h h (by omega)
      | none =>
        show rok _ (if (tx_rd f len 59 (tx_or f len t).2).1 = true then _ else _ : Bool × Tx × (Nat → Int32) × Nat × Why).2.2.1
        split
        · exact rok_h (do_ok n _ _ _ (B + 48) (rok_now (by omega) h ho) (by omega)) (by omega)
        · exact rok_h (rok_now (by omega) h ho) (by omega)
    · exact rok_h h (by omega)
/-- the run's parts: the reading, the doing -/
def u_R (S : Nat → Int32) (F : Nat → Nat → Int32) (len : Nat) : Bool × Tx := tx_al (F 14) len 61 (0, S 19, F 18)
def u_Q (S : Nat → Int32) (F : Nat → Nat → Int32) (w : Nat → Int32) (len : Nat) : Bool × Tx × (Nat → Int32) × Nat × Why := x_do (F 14) len 61 (0, (u_R S F len).2.2) w 0
def u_S1 (S : Nat → Int32) : Nat → Int32 := upd (upd S 0 0) 17 (-1)
def u_S2 (S : Nat → Int32) (F : Nat → Nat → Int32) (w : Nat → Int32) (len : Nat) : Nat → Int32 := upd (tS (nS (dS (u_S1 S) (u_Q S F w len).2.2.2.1) (u_Q S F w len).2.2.2.2) (u_Q S F w len).2.1) 15 0
def u_F2 (S : Nat → Int32) (F : Nat → Nat → Int32) (w : Nat → Int32) (len : Nat) : Nat → Nat → Int32 := tF (upA F 10 (va_cpy w (F 10) 0 0 99)) (u_Q S F w len).2.1
def u_F3 (S : Nat → Int32) (F : Nat → Nat → Int32) (w : Nat → Int32) (len : Nat) : Nat → Nat → Int32 := m_keep (m_keep (m_keep (u_F2 S F w len) 0 16 (nI (u_Q S F w len).2.2.2.1)) 1 (u_S2 S F w len 3) (u_S2 S F w len 4)) 2 (u_S2 S F w len 5) (u_S2 S F w len 6)
theorem S2_o {S : Nat → Int32} {F : Nat → Nat → Int32} {w : Nat → Int32} {len : Nat} : u_S2 S F w len 11 = S 11 ∧ u_S2 S F w len 12 = S 12 ∧ u_S2 S F w len 20 = nI (u_Q S F w len).2.2.2.1 := by
  unfold u_S2 tS
  refine ⟨?_, ?_, ?_⟩
  · rw [upd_n (by decide), upd_n (by decide), upd_n (by decide), nS_o (by decide) (by decide) (by decide) (by decide)]
    rfl
  · rw [upd_n (by decide), upd_n (by decide), upd_n (by decide), nS_o (by decide) (by decide) (by decide) (by decide)]
    rfl
  · rw [upd_n (by decide), upd_n (by decide), upd_n (by decide), nS_o (by decide) (by decide) (by decide) (by decide)]
    rfl
