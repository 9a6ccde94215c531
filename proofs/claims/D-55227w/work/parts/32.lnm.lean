/-! THE MATHEMATICS OF THE LINE: its characters are a list of numbers; accounts -/
def lnw (xs : List Nat) (f : Nat → Int32) : Nat → Int32 := fun k => if h : k < xs.length then nI xs[k] else f k
def lS (S : Nat → Int32) (xs : List Nat) : Nat → Int32 := upd S 22 (nI xs.length)
def lF (F : Nat → Nat → Int32) (xs : List Nat) : Nat → Nat → Int32 := upA F 21 (lnw xs (F 21))
theorem lnw_0 (f : Nat → Int32) : lnw [] f = f := by
  funext k
  unfold lnw
  rw [dif_neg (by simp)]
theorem lnw_s (xs : List Nat) (c : Nat) (f : Nat → Int32) : upd (lnw xs f) xs.length (nI c) = lnw (xs ++ [c]) f := by
  funext k
  by_cases e : k = xs.length
  · subst e
    rw [upd_s]
    unfold lnw
    rw [dif_pos (by simp)]
    simp
  · rw [upd_n e]
    unfold lnw
    by_cases h : k < xs.length
    · rw [dif_pos h, dif_pos (by simp; omega), List.getElem_append_left h]
    · rw [dif_neg h, dif_neg (by simp; omega)]
theorem lS_s {S : Nat → Int32} {xs : List Nat} {c : Nat} {x : Int32} (h : x = nI (xs.length + 1)) : upd (lS S xs) 22 x = lS S (xs ++ [c]) := by
  unfold lS
  rw [upd_upd, h]
  simp
theorem lF_s {F : Nat → Nat → Int32} {xs : List Nat} {c : Nat} {x : Int32} (h : x = nI c) : upA (lF F xs) 21 (upd (lF F xs 21) xs.length x) = lF F (xs ++ [c]) := by
  unfold lF
  rw [upA_s, upA_upA, h, lnw_s]
theorem lF_0 (F : Nat → Nat → Int32) : lF F [] = F := by
  unfold lF
  rw [lnw_0, upA_id]
theorem ch_na2 {x : Int32} (h : vp_nar .char x = x) : narrow .char (.int x) = .int x := by
  have e : narrow .char (.int x) = .int (vp_nar .char x) := rfl
  rw [e, h]
theorem ch_nar {c : Nat} (h : c < 128) : vp_nar .char ((nI c).toUInt32 % 65536).toInt32 = nI c := by
  have : ∀ c, c < 128 → vp_nar .char ((nI c).toUInt32 % 65536).toInt32 = nI c := by decide +kernel
  exact this c h
def l_num (v : Nat) : List Nat := (if 9 < v then [48 + v / 10] else []) ++ [48 + v % 10]
def taN (w : Nat → Int32) (p : Nat) : Nat := (pw w p 2).toNatClampNeg
def l_pipe (w : Nat → Int32) (p : Nat) : List Nat := l_num p ++ [58] ++ l_num (stN w p) ++ [47] ++ l_num (crN w p) ++ (if pw w p 2 < 5 then [] else [126])
def l_bench (w : Nat → Int32) : Nat → List Nat
  | 0 => []
  | k + 1 => l_bench w k ++ (if k = 0 then [] else [32]) ++ l_pipe w (bnN w k)
def l_tell (w : Nat → Int32) (nb : Nat) : List Nat := if nb = 0 then [101, 109, 112, 116, 121] else l_bench w nb
def l_per (w : Nat → Int32) : Nat → List Nat
  | 0 => []
  | k + 1 => l_per w k ++ [if r_tk w (nI k) = true then 112 else 46]
theorem num_len {v : Nat} : (l_num v).length ≤ 2 := by
  unfold l_num
  split <;> simp
theorem num_len1 {v : Nat} (h : v ≤ 9) : (l_num v).length = 1 := by
  unfold l_num
  rw [if_neg (by omega)]
  rfl
theorem pipe_len {w : Nat → Int32} {p : Nat} (hp : p < 10) (hc : crN w p ≤ 9) : (l_pipe w p).length ≤ 7 := by
  unfold l_pipe
  have h1 := num_len1 (v := p) (by omega)
  have h2 := num_len1 hc
  have h3 := num_len (v := stN w p)
  split <;> simp only [List.length_append, List.length_cons, List.length_nil, h1, h2] <;> omega
def r_wst (w : Nat → Int32) : Nat → Nat
  | 0 => 0
  | k + 1 => r_wst w k + (if r_why w k < 0 then 1 else 0)
theorem wst_le (w : Nat → Int32) : ∀ k, r_wst w k ≤ k
  | 0 => Nat.le_refl _
  | k + 1 => by
    have := wst_le w k
    unfold r_wst
    split <;> omega
def r_inn (w : Nat → Int32) : Nat → Int32
  | 0 => 0
  | i + 1 => r_inn w i + nI (i + 1) * w (42 + (i + 1))
def r_sum (w : Nat → Int32) : Nat → Nat
  | 0 => 0
  | k + 1 => r_sum w k + stN w k
theorem dm_ok {s n : Nat} (hs : s ≤ 120) (hn : n ≤ 10) (h0 : 0 < n) : vf_n64 (FP.ddiv (FP.i2d (nI s)) (FP.i2d (nI n))) := by
  have h : ∀ s, s < 121 → ∀ n, n < 11 → (n = 0 ∨ FP.ddiv (FP.i2d (nI s)) (FP.i2d (nI n)) &&& 0x7fffffffffffffff ≤ 0x7ff0000000000000) := by decide +kernel
  exact (h s (by omega) n (by omega)).resolve_left (by omega)
theorem ds_ok {s n : Nat} (hs : s ≤ 10) (hn : n ≤ 10) (h0 : 0 < n) : vf_n32 (FP.fdiv (FP.i2f (nI s)) (FP.i2f (nI n))) := by
  have h : ∀ s, s < 11 → ∀ n, n < 11 → (n = 0 ∨ FP.fdiv (FP.i2f (nI s)) (FP.i2f (nI n)) &&& 0x7fffffff ≤ 0x7f800000) := by decide +kernel
  exact (h s (by omega) n (by omega)).resolve_left (by omega)
def q_res (F : Nat → Nat → Int32) (d : Int32) (dn : Nat) (b : Bool) : Int32 × Int32 := if d < 0 then (1, 0) else if 2 < d then (2, 0) else if F 1 dn = 0 then (2, 0) else (0, if b then F 2 dn else F 1 dn)
def q_app (S : Nat → Int32) (c : Int32) (len : Nat) : Int32 × Int32 := if btw c 33 126 = false then (1, 0) else if len = 60 then (2, 0) else (0, nI (len + 1))
theorem sw17 (x : Int32) : x = 0 ∨ x = 1 ∨ x = 2 ∨ x = 3 ∨ x = 4 ∨ x = 5 ∨ x = 6 ∨ x = 7 ∨ x = 8 ∨ x = 9 ∨ x = 10 ∨ x = 11 ∨ x = 12 ∨ x = 13 ∨ x = 14 ∨ x = 15 ∨ x = 16 ∨ ((x.toInt < 0 ∨ 16 < x.toInt) ∧ ¬ x = 0 ∧ ¬ x = 1 ∧ ¬ x = 2 ∧ ¬ x = 3 ∧ ¬ x = 4 ∧ ¬ x = 5 ∧ ¬ x = 6 ∧ ¬ x = 7 ∧ ¬ x = 8 ∧ ¬ x = 9 ∧ ¬ x = 10 ∧ ¬ x = 11 ∧ ¬ x = 12 ∧ ¬ x = 13 ∧ ¬ x = 14 ∧ ¬ x = 15 ∧ ¬ x = 16) := by
  by_cases h0 : x = 0
  · exact Or.inl h0
  by_cases h1 : x = 1
  · exact Or.inr (Or.inl h1)
  by_cases h2 : x = 2
  · exact Or.inr (Or.inr (Or.inl h2))
  by_cases h3 : x = 3
  · exact Or.inr (Or.inr (Or.inr (Or.inl h3)))
  by_cases h4 : x = 4
  · exact Or.inr (Or.inr (Or.inr (Or.inr (Or.inl h4))))
  by_cases h5 : x = 5
  · exact Or.inr (Or.inr (Or.inr (Or.inr (Or.inr (Or.inl h5)))))
  by_cases h6 : x = 6
  · exact Or.inr (Or.inr (Or.inr (Or.inr (Or.inr (Or.inr (Or.inl h6))))))
  by_cases h7 : x = 7
  · exact Or.inr (Or.inr (Or.inr (Or.inr (Or.inr (Or.inr (Or.inr (Or.inl h7)))))))
  by_cases h8 : x = 8
  · exact Or.inr (Or.inr (Or.inr (Or.inr (Or.inr (Or.inr (Or.inr (Or.inr (Or.inl h8))))))))
  by_cases h9 : x = 9
  · exact Or.inr (Or.inr (Or.inr (Or.inr (Or.inr (Or.inr (Or.inr (Or.inr (Or.inr (Or.inl h9)))))))))
  by_cases h10 : x = 10
  · exact Or.inr (Or.inr (Or.inr (Or.inr (Or.inr (Or.inr (Or.inr (Or.inr (Or.inr (Or.inr (Or.inl h10))))))))))
  by_cases h11 : x = 11
  · exact Or.inr (Or.inr (Or.inr (Or.inr (Or.inr (Or.inr (Or.inr (Or.inr (Or.inr (Or.inr (Or.inr (Or.inl h11)))))))))))
  by_cases h12 : x = 12
  · exact Or.inr (Or.inr (Or.inr (Or.inr (Or.inr (Or.inr (Or.inr (Or.inr (Or.inr (Or.inr (Or.inr (Or.inr (Or.inl h12))))))))))))
  by_cases h13 : x = 13
  · exact Or.inr (Or.inr (Or.inr (Or.inr (Or.inr (Or.inr (Or.inr (Or.inr (Or.inr (Or.inr (Or.inr (Or.inr (Or.inr (Or.inl h13)))))))))))))
  by_cases h14 : x = 14
  · exact Or.inr (Or.inr (Or.inr (Or.inr (Or.inr (Or.inr (Or.inr (Or.inr (Or.inr (Or.inr (Or.inr (Or.inr (Or.inr (Or.inr (Or.inl h14))))))))))))))
  by_cases h15 : x = 15
  · exact Or.inr (Or.inr (Or.inr (Or.inr (Or.inr (Or.inr (Or.inr (Or.inr (Or.inr (Or.inr (Or.inr (Or.inr (Or.inr (Or.inr (Or.inr (Or.inl h15)))))))))))))))
  by_cases h16 : x = 16
  · exact Or.inr (Or.inr (Or.inr (Or.inr (Or.inr (Or.inr (Or.inr (Or.inr (Or.inr (Or.inr (Or.inr (Or.inr (Or.inr (Or.inr (Or.inr (Or.inr (Or.inl h16))))))))))))))))
  refine Or.inr (Or.inr (Or.inr (Or.inr (Or.inr (Or.inr (Or.inr (Or.inr (Or.inr (Or.inr (Or.inr (Or.inr (Or.inr (Or.inr (Or.inr (Or.inr (Or.inr ⟨?_, h0, h1, h2, h3, h4, h5, h6, h7, h8, h9, h10, h11, h12, h13, h14, h15, h16⟩))))))))))))))))
  have e0 : ¬ x.toInt = 0 := fun e => h0 (Int32.toInt_inj.mp e)
  have e1 : ¬ x.toInt = 1 := fun e => h1 (Int32.toInt_inj.mp e)
  have e2 : ¬ x.toInt = 2 := fun e => h2 (Int32.toInt_inj.mp e)
  have e3 : ¬ x.toInt = 3 := fun e => h3 (Int32.toInt_inj.mp e)
  have e4 : ¬ x.toInt = 4 := fun e => h4 (Int32.toInt_inj.mp e)
  have e5 : ¬ x.toInt = 5 := fun e => h5 (Int32.toInt_inj.mp e)
  have e6 : ¬ x.toInt = 6 := fun e => h6 (Int32.toInt_inj.mp e)
  have e7 : ¬ x.toInt = 7 := fun e => h7 (Int32.toInt_inj.mp e)
  have e8 : ¬ x.toInt = 8 := fun e => h8 (Int32.toInt_inj.mp e)
  have e9 : ¬ x.toInt = 9 := fun e => h9 (Int32.toInt_inj.mp e)
  have e10 : ¬ x.toInt = 10 := fun e => h10 (Int32.toInt_inj.mp e)
  have e11 : ¬ x.toInt = 11 := fun e => h11 (Int32.toInt_inj.mp e)
  have e12 : ¬ x.toInt = 12 := fun e => h12 (Int32.toInt_inj.mp e)
  have e13 : ¬ x.toInt = 13 := fun e => h13 (Int32.toInt_inj.mp e)
  have e14 : ¬ x.toInt = 14 := fun e => h14 (Int32.toInt_inj.mp e)
  have e15 : ¬ x.toInt = 15 := fun e => h15 (Int32.toInt_inj.mp e)
  have e16 : ¬ x.toInt = 16 := fun e => h16 (Int32.toInt_inj.mp e)
  omega
def q_acc (w S : Nat → Int32) (x : Int32) (h np : Nat) : Int32 × Int32 := if x = 0 then (0, w 0) else if x = 1 then (0, nI (h % 24)) else if x = 2 then (0, w 1) else if x = 3 then (0, w 2) else if x = 4 then (0, nI (r_wst w np)) else if x = 5 then (0, w 3) else if x = 6 then (0, w 5) else if x = 7 then (0, w 6) else if x = 8 then (0, w 7) else if x = 9 then (0, r_pcs w 6) else if x = 10 then (0, r_inn w 6) else if x = 11 then (0, w 8) else if x = 12 then (0, nI (r_par w 8)) else if x = 13 then (0, w 9) else if x = 14 then (0, w 10) else if x = 15 then (0, S 15) else if x = 16 then (0, S 11) else (1, 0)
theorem per_len (w : Nat → Int32) : ∀ k, (l_per w k).length = k
  | 0 => rfl
  | k + 1 => by
    unfold l_per
    rw [List.length_append, per_len w k]
    rfl
def q_chr (F : Nat → Nat → Int32) (i : Int32) (k ll : Nat) : Int32 × Int32 := if btw i 0 (nI ll - 1) = true then (0, F 21 k) else (1, 0)
