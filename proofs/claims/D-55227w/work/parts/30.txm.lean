/-! THE MATHEMATICS OF THE TEXT: a place of reading is (at, sort, numbers) -/
abbrev Tx : Type := Nat × Int32 × (Nat → Int32)
def tS (S : Nat → Int32) (t : Tx) : Nat → Int32 := upd (upd S 16 (nI t.1)) 19 t.2.1
def tF (F : Nat → Nat → Int32) (t : Tx) : Nat → Nat → Int32 := upA F 18 t.2.2
theorem tS_at {S : Nat → Int32} {t : Tx} {x : Int32} {a : Nat} (h : x = nI a) : upd (tS S t) 16 x = tS S (a, t.2) := by
  subst h
  unfold tS
  rw [upd_comm _ _ _ (show (19 : Nat) ≠ 16 by decide), upd_upd]
theorem tS_so {S : Nat → Int32} {t : Tx} {x : Int32} : upd (tS S t) 19 x = tS S (t.1, x, t.2.2) := by
  unfold tS
  rw [upd_upd]
theorem tF_nu {F : Nat → Nat → Int32} {t : Tx} {x : Nat → Int32} {a : Nat} {v : Int32} : upA (tF F t) 18 x = tF F (a, v, x) := by
  unfold tF
  rw [upA_upA]
theorem tF_at {F : Nat → Nat → Int32} {t : Tx} {a : Nat} {v : Int32} : tF F t = tF F (a, v, t.2.2) := rfl
def tx_sg (f : Nat → Int32) (len : Nat) (t : Tx) : Int32 := if len ≤ t.1 then -1 else f t.1
def tx_rd (f : Nat → Int32) (len : Nat) (c : Int32) (t : Tx) : Bool × Tx := if tx_sg f len t = c then (true, (t.1 + 1, t.2)) else (false, t)
def tx_dg (f : Nat → Int32) (len k : Nat) (t : Tx) : Bool × Tx := if btw (tx_sg f len t) 48 57 = true then (true, (t.1 + 1, t.2.1, upd t.2.2 k (f t.1 - 48))) else (false, t)
def tx_n1 (t : Tx) (x : Int32) : Tx := (t.1, t.2.1, upd t.2.2 0 (t.2.2 0 + 10 * x))
def tx_nu (f : Nat → Int32) (len : Nat) (t : Tx) : Bool × Tx := if (tx_dg f len 0 t).1 = true then (if (tx_dg f len 0 (tx_dg f len 0 t).2).1 = true then (true, tx_n1 (tx_dg f len 0 (tx_dg f len 0 t).2).2 ((tx_dg f len 0 t).2.2.2 0)) else (true, (tx_dg f len 0 t).2)) else (false, t)
def tx_is (f : Nat → Int32) (len : Nat) (c x : Int32) (t : Tx) : Bool × Tx := if (tx_rd f len c t).1 = true then (true, ((tx_rd f len c t).2.1, x, (tx_rd f len c t).2.2.2)) else (false, t)
def tx_h1 (t : Tx) : Tx := (t.1, t.2.1, upd t.2.2 0 1)
def tx_hs (f : Nat → Int32) (len : Nat) (t : Tx) : Bool × Tx := if btw (tx_sg f len t) 48 57 = true then tx_nu f len (tx_h1 t) else (true, tx_h1 t)
def tx_dr (f : Nat → Int32) (len : Nat) (t : Tx) : Bool × Tx := if (tx_dg f len 0 t).1 = true then (if (tx_rd f len 42 (tx_dg f len 0 t).2).1 = true then tx_dg f len 1 (tx_rd f len 42 (tx_dg f len 0 t).2).2 else (false, (tx_dg f len 0 t).2)) else (false, t)
def tx_or (f : Nat → Int32) (len : Nat) (t : Tx) : Bool × Tx :=
  if (tx_is f len 109 1 t).1 = true then (true, (tx_is f len 109 1 t).2)
  else if (tx_is f len 98 0 t).1 = true then tx_dg f len 0 (tx_is f len 98 0 t).2
  else if (tx_is f len 115 2 t).1 = true then tx_dg f len 0 (tx_is f len 115 2 t).2
  else if (tx_is f len 112 4 t).1 = true then tx_dg f len 0 (tx_is f len 112 4 t).2
  else if (tx_is f len 120 5 t).1 = true then tx_dg f len 0 (tx_is f len 120 5 t).2
  else if (tx_is f len 99 3 t).1 = true then tx_nu f len (tx_is f len 99 3 t).2
  else if (tx_is f len 100 6 t).1 = true then tx_dr f len (tx_is f len 100 6 t).2
  else if (tx_is f len 104 7 t).1 = true then tx_hs f len (tx_is f len 104 7 t).2
  else (false, t)
theorem txrd_f {f : Nat → Int32} {len : Nat} {c : Int32} {t : Tx} (h : (tx_rd f len c t).1 = false) : (tx_rd f len c t).2 = t := by
  unfold tx_rd at h ⊢
  split
  · rename_i e
    rw [if_pos e] at h
    cases h
  · rfl
theorem txdg_f {f : Nat → Int32} {len k : Nat} {t : Tx} (h : (tx_dg f len k t).1 = false) : (tx_dg f len k t).2 = t := by
  unfold tx_dg at h ⊢
  split
  · rename_i e
    rw [if_pos e] at h
    cases h
  · rfl
theorem txis_f {f : Nat → Int32} {len : Nat} {c x : Int32} {t : Tx} (h : (tx_is f len c x t).1 = false) : (tx_is f len c x t).2 = t := by
  unfold tx_is at h ⊢
  split
  · rename_i e
    rw [if_pos e] at h
    cases h
  · rfl
theorem txnu_f {f : Nat → Int32} {len : Nat} {t : Tx} (h : (tx_nu f len t).1 = false) : (tx_nu f len t).2 = t := by
  unfold tx_nu at h ⊢
  split
  · rename_i e
    rw [if_pos e] at h
    split at h <;> cases h
  · rfl
theorem txrd_t {f : Nat → Int32} {len : Nat} {c : Int32} {t : Tx} (h : (tx_rd f len c t).1 = true) (hc : ¬ c = -1) : (tx_rd f len c t).2.1 = t.1 + 1 ∧ t.1 < len := by
  unfold tx_rd at h ⊢
  split
  · rename_i e
    refine ⟨rfl, ?_⟩
    unfold tx_sg at e
    split at e
    · exact absurd e.symm hc
    · omega
  · rename_i e
    rw [if_neg e] at h
    cases h
theorem txdg_t {f : Nat → Int32} {len k : Nat} {t : Tx} (h : (tx_dg f len k t).1 = true) : (tx_dg f len k t).2.1 = t.1 + 1 ∧ t.1 < len := by
  unfold tx_dg at h ⊢
  split
  · rename_i e
    refine ⟨rfl, ?_⟩
    unfold tx_sg at e
    split at e
    · exact absurd e (by decide)
    · omega
  · rename_i e
    rw [if_neg e] at h
    cases h
theorem txrd_l {f : Nat → Int32} {len : Nat} {c : Int32} {t : Tx} (hc : ¬ c = -1) (h : t.1 ≤ len) : (tx_rd f len c t).2.1 ≤ len := by
  cases e : (tx_rd f len c t).1 with
  | true =>
    obtain ⟨h1, h2⟩ := txrd_t e hc
    omega
  | false =>
    rw [txrd_f e]
    exact h
theorem txdg_l {f : Nat → Int32} {len k : Nat} {t : Tx} (h : t.1 ≤ len) : (tx_dg f len k t).2.1 ≤ len := by
  cases e : (tx_dg f len k t).1 with
  | true =>
    obtain ⟨h1, h2⟩ := txdg_t e
    omega
  | false =>
    rw [txdg_f e]
    exact h
theorem txis_t {f : Nat → Int32} {len : Nat} {c x : Int32} {t : Tx} (h : (tx_is f len c x t).1 = true) (hc : ¬ c = -1) : (tx_is f len c x t).2.1 = t.1 + 1 ∧ t.1 < len := by
  unfold tx_is at h ⊢
  split
  · rename_i e
    exact txrd_t e hc
  · rename_i e
    rw [if_neg e] at h
    cases h
theorem txnu_t {f : Nat → Int32} {len : Nat} {t : Tx} (h : (tx_nu f len t).1 = true) : t.1 ≤ (tx_nu f len t).2.1 ∧ (tx_nu f len t).2.1 ≤ len := by
  unfold tx_nu at h ⊢
  split
  · rename_i e
    obtain ⟨e1, e2⟩ := txdg_t e
    split
    · rename_i e3
      obtain ⟨e4, e5⟩ := txdg_t e3
      show t.1 ≤ (tx_dg f len 0 (tx_dg f len 0 t).2).2.1 ∧ (tx_dg f len 0 (tx_dg f len 0 t).2).2.1 ≤ len
      omega
    · show t.1 ≤ (tx_dg f len 0 t).2.1 ∧ (tx_dg f len 0 t).2.1 ≤ len
      omega
  · rename_i e
    rw [if_neg e] at h
    cases h
theorem txis_l {f : Nat → Int32} {len : Nat} {c x : Int32} {t : Tx} (hc : ¬ c = -1) (h : t.1 ≤ len) : (tx_is f len c x t).2.1 ≤ len := by
  cases e : (tx_is f len c x t).1 with
  | true =>
    obtain ⟨h1, h2⟩ := txis_t e hc
    omega
  | false =>
    rw [txis_f e]
    exact h
theorem txnu_l {f : Nat → Int32} {len : Nat} {t : Tx} (h : t.1 ≤ len) : (tx_nu f len t).2.1 ≤ len := by
  cases e : (tx_nu f len t).1 with
  | true => exact (txnu_t e).2
  | false =>
    rw [txnu_f e]
    exact h
theorem txor_t {f : Nat → Int32} {len : Nat} {t : Tx} (h : (tx_or f len t).1 = true) : t.1 < (tx_or f len t).2.1 ∧ (tx_or f len t).2.1 ≤ len := by
  have hd : ∀ {c x : Int32}, (tx_is f len c x t).1 = true → ¬ c = -1 → (tx_dg f len 0 (tx_is f len c x t).2).1 = true → t.1 < (tx_dg f len 0 (tx_is f len c x t).2).2.1 ∧ (tx_dg f len 0 (tx_is f len c x t).2).2.1 ≤ len := by
    intro c x h1 hc h2
    obtain ⟨e1, e2⟩ := txis_t h1 hc
    obtain ⟨e3, e4⟩ := txdg_t h2
    omega
  unfold tx_or at h ⊢
  split
  · rename_i e
    obtain ⟨e1, e2⟩ := txis_t e (by decide)
    show t.1 < (tx_is f len 109 1 t).2.1 ∧ (tx_is f len 109 1 t).2.1 ≤ len
    omega
  rename_i n1
  rw [if_neg n1] at h
  split
  · rename_i e
    rw [if_pos e] at h
    exact hd e (by decide) h
  rename_i n2
  rw [if_neg n2] at h
  split
  · rename_i e
    rw [if_pos e] at h
    exact hd e (by decide) h
  rename_i n3
  rw [if_neg n3] at h
  split
  · rename_i e
    rw [if_pos e] at h
    exact hd e (by decide) h
  rename_i n4
  rw [if_neg n4] at h
  split
  · rename_i e
    rw [if_pos e] at h
    exact hd e (by decide) h
  rename_i n5
  rw [if_neg n5] at h
  split
  · rename_i e
    rw [if_pos e] at h
    obtain ⟨e1, e2⟩ := txis_t e (by decide)
    obtain ⟨e3, e4⟩ := txnu_t h
    omega
  rename_i n6
  rw [if_neg n6] at h
  split
  · rename_i e
    rw [if_pos e] at h
    obtain ⟨e1, e2⟩ := txis_t e (by decide)
    unfold tx_dr at h ⊢
    split
    · rename_i e3
      rw [if_pos e3] at h
      obtain ⟨e4, e5⟩ := txdg_t e3
      split
      · rename_i e6
        rw [if_pos e6] at h
        obtain ⟨e7, e8⟩ := txrd_t e6 (by decide)
        obtain ⟨e9, e10⟩ := txdg_t h
        omega
      · rename_i e6
        rw [if_neg e6] at h
        cases h
    · rename_i e3
      rw [if_neg e3] at h
      cases h
  rename_i n7
  rw [if_neg n7] at h
  split
  · rename_i e
    rw [if_pos e] at h
    obtain ⟨e1, e2⟩ := txis_t e (by decide)
    unfold tx_hs at h ⊢
    split
    · rename_i e3
      rw [if_pos e3] at h
      obtain ⟨e4, e5⟩ := txnu_t h
      have e6 : (tx_h1 (tx_is f len 104 7 t).2).1 = (tx_is f len 104 7 t).2.1 := rfl
      omega
    · show t.1 < (tx_is f len 104 7 t).2.1 ∧ (tx_is f len 104 7 t).2.1 ≤ len
      omega
  rename_i n8
  rw [if_neg n8] at h
  cases h
def tx_al (f : Nat → Int32) (len : Nat) : Nat → Tx → Bool × Tx
  | 0, t => (false, t)
  | n + 1, t => if (tx_or f len t).1 = true then (if (tx_rd f len 59 (tx_or f len t).2).1 = true then tx_al f len n (tx_rd f len 59 (tx_or f len t).2).2 else (decide ((tx_or f len t).2.1 = len), (tx_or f len t).2)) else (false, (tx_or f len t).2)
