/-! THE MATHEMATICS OF THE ROW: w the 99 numbers of the reference; functions over it -/
def bI (b : Bool) : Int32 := if b then 1 else 0
def btw (v lo hi : Int32) : Bool := decide (lo ≤ v) && decide (v ≤ hi)
theorem upd_upd (f : Nat → Int32) (k : Nat) (x y : Int32) : upd (upd f k x) k y = upd f k y := by
  funext i
  unfold upd
  by_cases h : i = k
  · rw [if_pos h, if_pos h]
  · rw [if_neg h, if_neg h, if_neg h]
theorem upd_comm (f : Nat → Int32) {j k : Nat} (x y : Int32) (h : j ≠ k) : upd (upd f j x) k y = upd (upd f k y) j x := by
  funext i
  unfold upd
  by_cases h1 : i = j
  · by_cases h2 : i = k
    · exact absurd (h1.symm.trans h2) h
    · rw [if_neg h2, if_pos h1, if_pos h1]
  · by_cases h2 : i = k
    · rw [if_pos h2, if_neg h1, if_pos h2]
    · rw [if_neg h2, if_neg h1, if_neg h1, if_neg h2]
theorem upd_same (f : Nat → Int32) (k : Nat) : upd f k (f k) = f := by
  funext i
  unfold upd
  by_cases h : i = k
  · rw [if_pos h, h]
  · rw [if_neg h]
def m_keep (F : Nat → Nat → Int32) (d : Nat) (a b : Int32) : Nat → Nat → Int32 := fun i => if i = 2 then upd (F 2) d b else if i = 1 then upd (F 1) d a else F i
def m_ref (S : Nat → Int32) (F : Nat → Nat → Int32) : Nat → Nat → Int32 := m_keep (m_keep (m_keep F 0 (S 3) (S 4)) 1 (S 5) (S 6)) 2 0 0
def r_tk (w : Nat → Int32) (p : Int32) : Bool := decide (((w 11) >>> (p &&& 31)) &&& 1 = 1)
/-- the first place from k on, of n places, where p stands on the bench; -1 -/
def r_find (w : Nat → Int32) (p : Int32) : Nat → Nat → Int32
  | 0, _ => -1
  | n + 1, k => if w (12 + k) = p then nI k else r_find w p n (k + 1)
/-- how many perches below k are taken -/
def r_par (w : Nat → Int32) : Nat → Nat
  | 0 => 0
  | k + 1 => r_par w k + (if r_tk w (nI k) then 1 else 0)
theorem par_le (w : Nat → Int32) : ∀ k, r_par w k ≤ k
  | 0 => Nat.le_refl _
  | k + 1 => by
    have := par_le w k
    unfold r_par
    split <;> omega
/-- the pieces of 1 .. i inches -/
def r_pcs (w : Nat → Int32) : Nat → Int32
  | 0 => 0
  | i + 1 => r_pcs w i + w (42 + (i + 1))
/-- the longest piece of 1 .. i inches; 0 -/
def r_lng (w : Nat → Int32) : Nat → Nat
  | 0 => 0
  | i + 1 => if w (42 + (i + 1)) ≤ 0 then r_lng w i else i + 1
theorem lng_le (w : Nat → Int32) : ∀ k, r_lng w k ≤ k
  | 0 => Nat.le_refl _
  | k + 1 => by
    have := lng_le w k
    unfold r_lng
    split <;> omega
theorem cpy_0 (f g : Nat → Int32) (sp dp : Nat) : va_cpy f g sp dp 0 = g := by
  funext k
  unfold va_cpy
  rw [if_neg (by omega)]
theorem cpy_s (f g : Nat → Int32) (sp dp n : Nat) : upd (va_cpy f g sp dp n) (dp + n) (f (sp + n)) = va_cpy f g sp dp (n + 1) := by
  funext k
  unfold upd va_cpy
  by_cases h : k = dp + n
  · subst h
    rw [if_pos rfl, if_pos (by omega), show sp + (dp + n - dp) = sp + n by omega]
  · rw [if_neg h]
    by_cases h1 : dp ≤ k ∧ k < dp + n
    · rw [if_pos h1, if_pos (by omega)]
    · rw [if_neg h1, if_neg (by omega)]
/-- why something is refused: reason, detail, cause, its detail -/
abbrev Why : Type := Option (Int32 × Int32 × Int32 × Int32)
def nrv (o : Why) : Int32 := match o with
  | none => 0
  | some _ => 9
def nS (S : Nat → Int32) (o : Why) : Nat → Int32 := match o with
  | none => S
  | some (a, b, c, d) => upd (upd (upd (upd S 3 a) 4 b) 5 c) 6 d
def o_pipe (w : Nat → Int32) (stem crack : Int32) : Why := if btw stem 1 12 = false then some (3, stem, 0, 0) else if btw crack 0 9 = false then some (3, crack, 0, 0) else if w 2 = 10 then some (4, 10, 0, 0) else none
def isP (w : Nat → Int32) (p : Int32) : Bool := btw p 0 (w 2 - 1)
def o_bring (w : Nat → Int32) (p : Int32) (nb : Nat) : Why := if isP w p = false then some (1, p, 0, 0) else if r_find w p nb 0 < 0 then none else some (5, r_find w p nb 0, 0, 0)
def o_back (w : Nat → Int32) (p : Int32) (nb : Nat) : Why := if isP w p = false then some (1, p, 0, 0) else if r_find w p nb 0 < 0 then some (6, p, 0, 0) else none
def o_place (w : Nat → Int32) (p : Int32) : Why := if btw p 0 (w 3 - 1) = false then some (17, p, 0, 0) else none
def o_lump (w : Nat → Int32) (v : Int32) : Why := if btw v 1 20 = false then some (3, v, 0, 0) else if w 4 = 20 then some (4, 20, 0, 0) else none
def o_piece (w : Nat → Int32) (v : Int32) : Why := if btw v 1 6 = false then some (3, v, 0, 0) else if r_pcs w 6 = 24 then some (4, 24, 0, 0) else none
/-- the change of the kept rows' numbers -/
def m_kmt (c f : Nat) : Nat := if c = 8 then ((f + 1) % 8 + 7) % 8 else (f + c) % 8
def m_kmS (S : Nat → Int32) (c f : Nat) : Nat → Int32 := if c = 8 then upd (upd S 12 (nI ((f + 1) % 8))) 11 (nI 8) else upd S 11 (nI (c + 1))
/-- one row is put to the rows that can be undone -/
def m_km (F : Nat → Nat → Int32) (row : Nat → Int32) (c f : Nat) : Nat → Int32 := va_cpy row (F 8) 0 (99 * m_kmt c f) 99
/-- places leave: of n numbers from base on, the one at place goes, a 0 comes behind -/
def r_del (w : Nat → Int32) (base n place : Nat) : Nat → Int32 := fun j => if base + place ≤ j ∧ j < base + (n - 1) then w (j + 1) else if j = base + (n - 1) then 0 else w j
theorem nrv_0 {o : Why} (h : nrv o = 0) : o = none := by
  cases o with
  | none => rfl
  | some y => exact absurd h (by show ¬ (9 : Int32) = 0; decide)
theorem nrv_n {o : Why} (h : ¬ nrv o = 0) : ∃ y, o = some y := by
  cases o with
  | none => exact absurd rfl h
  | some y => exact ⟨y, rfl⟩
theorem upd_n {f : Nat → Int32} {k j : Nat} {x : Int32} (h : j ≠ k) : upd f k x j = f j := if_neg h
theorem upd_s {f : Nat → Int32} {k : Nat} {x : Int32} : upd f k x k = x := if_pos rfl
/-- places from k0 on, below k, have taken their right neighbour's number -/
def r_shf (w : Nat → Int32) (b k0 k : Nat) : Nat → Int32 := fun j => if b + k0 ≤ j ∧ j < b + k then w (j + 1) else w j
theorem shf_0 (w : Nat → Int32) (b k0 : Nat) : r_shf w b k0 k0 = w := by
  funext j
  unfold r_shf
  rw [if_neg (by omega)]
theorem shf_lo {w : Nat → Int32} {b k0 k j : Nat} (h : j < b + k0 ∨ b + k ≤ j) : r_shf w b k0 k j = w j := by
  unfold r_shf
  rw [if_neg (by omega)]
theorem shf_s {w : Nat → Int32} {b k0 k : Nat} (h : k0 ≤ k) : upd (r_shf w b k0 k) (b + k) (w (b + k + 1)) = r_shf w b k0 (k + 1) := by
  funext j
  unfold upd r_shf
  by_cases e : j = b + k
  · subst e
    rw [if_pos rfl, if_pos (by omega)]
  · rw [if_neg e]
    by_cases h1 : b + k0 ≤ j ∧ j < b + k
    · rw [if_pos h1, if_pos (by omega)]
    · rw [if_neg h1, if_neg (by omega)]
theorem shf_del {w : Nat → Int32} {b k0 n : Nat} : upd (r_shf w b k0 (n - 1)) (b + (n - 1)) 0 = r_del w b n k0 := by
  funext j
  unfold upd r_shf r_del
  by_cases e : j = b + (n - 1)
  · rw [if_pos e, if_neg (by omega), if_pos e]
  · rw [if_neg e, if_neg e]
def r_lvb (w : Nat → Int32) (nb place : Nat) : Nat → Int32 := r_del (upd w 3 (nI (nb - 1))) 12 nb place
def r_lgo (w : Nat → Int32) (nl place : Nat) : Nat → Int32 := r_del (upd w 4 (nI (nl - 1))) 22 nl place
def r_brg (w : Nat → Int32) (p : Int32) (nb : Nat) : Nat → Int32 := upd (upd w (12 + nb) p) 3 (nI (nb + 1))
def r_lcm (w : Nat → Int32) (v : Int32) (nl : Nat) : Nat → Int32 := upd (upd (upd w (22 + nl) v) 4 (nI (nl + 1))) 5 (w 5 + 1)
def r_pcm (w : Nat → Int32) (i : Nat) : Nat → Int32 := upd w (42 + i) (w (42 + i) + 1)
def r_pip (w : Nat → Int32) (stem crack : Int32) (np : Nat) : Nat → Int32 := upd (upd (upd w 2 (nI (np + 1))) (49 + 5 * np + 0) stem) (49 + 5 * np + 1) crack
def r_exc (w : Nat → Int32) (i j : Nat) : Nat → Int32 := upd (upd w (12 + i) (w (12 + j))) (12 + j) (w (12 + i))
def m_rem (F : Nat → Nat → Int32) (w : Nat → Int32) (c f : Nat) (upA : (Nat → Nat → Int32) → Nat → (Nat → Int32) → Nat → Nat → Int32) : Nat → Nat → Int32 := upA (upA F 10 (va_cpy w (F 10) 0 0 99)) 8 (va_cpy (va_cpy w (F 10) 0 0 99) (F 8) 0 (99 * m_kmt c f) 99)
def o_exc (w : Nat → Int32) (a b : Int32) : Why := match o_place w a with
  | some y => some y
  | none => o_place w b
def o_cur (v : Int32) : Why := if btw v 18 23 = false then some (3, v, 0, 0) else none
def r_drm (w : Nat → Int32) (h : Int32) : Bool := decide (w 1 ≤ h) || decide (h < 6)
def r_unt (w : Nat → Int32) (h : Nat) (b : Bool) : Nat → Nat → Int32
  | 0, n => nI n
  | f + 1, n => if r_drm w (nI ((h + n) % 24)) = b then nI n else r_unt w h b f (n + 1)
def r_has (w : Nat → Int32) (h : Nat) (b : Bool) (n : Nat) : Prop := ∃ m, n ≤ m ∧ m < 24 ∧ r_drm w (nI ((h + m) % 24)) = b
theorem bI_inj {a b : Bool} : bI a = bI b ↔ a = b := by cases a <;> cases b <;> decide
def r_inc (w : Nat → Int32) (j : Nat) : Nat → Int32 := upd w j (w j + 1)
def hld (v : Int32) : Int32 := if 9 < v then 9 else v
/-- pipe p's number j -/
def pw (w : Nat → Int32) (p j : Nat) : Int32 := w (49 + 5 * p + j)
def r_lum (w : Nat → Int32) (p : Nat) : Int32 := (pw w p 1 + 2) / 3 + (if 3 ≤ pw w p 0 then 0 else 1)
/-- the first piece of i inches or more, n tries; -1 -/
def r_sho (w : Nat → Int32) : Nat → Nat → Int32
  | 0, _ => -1
  | n + 1, i => if w (42 + i) ≤ 0 then r_sho w n (i + 1) else nI i
def r_pof (w : Nat → Int32) (st : Nat) : Int32 := if 3 ≤ st then 0 else r_sho w (4 + st) (3 - st)
def o_mdd (w : Nat → Int32) (p st : Nat) : Why := if r_lum w p ≤ w 4 then (if r_pof w st < 0 then some (10, 3 - nI st, if r_pcs w 6 ≤ 0 then 0 else 11, nI (r_lng w 6)) else none) else some (9, r_lum w p - w 4, 0, 0)
def o_mend (w : Nat → Int32) (p st h : Nat) : Why := if w 3 = 0 then some (7, 0, 0, 0) else if r_drm w (nI (h % 24)) = false then o_mdd w p st else some (8, r_unt w h false 24 0, 0, 0)
theorem nS_2 (T : Nat → Int32) (c e : Int32) : upd (upd (upd (upd T 5 0) 6 0) 5 c) 6 e = upd (upd T 5 c) 6 e := by
  rw [upd_comm _ _ _ (show (6 : Nat) ≠ 5 by decide), upd_upd, upd_upd]
def r_use (w : Nat → Int32) (nl : Nat) : Nat → Nat → Int32
  | 0 => w
  | i + 1 => r_inc (r_lgo (r_use w nl i) (nl - i) 0) 6
theorem lgo_4 {w : Nat → Int32} {nl pl : Nat} : r_lgo w nl pl 4 = nI (nl - 1) := by
  unfold r_lgo r_del
  rw [if_neg (by omega), if_neg (by omega)]
  exact upd_s
theorem lgo_o {w : Nat → Int32} {nl pl j : Nat} (h4 : j ≠ 4) (h : j < 22 ∨ 22 + (nl - 1) < j) : r_lgo w nl pl j = w j := by
  unfold r_lgo r_del
  rw [if_neg (by omega), if_neg (by omega)]
  exact upd_n h4
theorem use_4 {w : Nat → Int32} {nl : Nat} (h : w 4 = nI nl) : ∀ i, r_use w nl i 4 = nI (nl - i)
  | 0 => h
  | i + 1 => by
    show r_inc _ 6 4 = _
    unfold r_inc
    rw [upd_n (by decide), lgo_4]
    rfl
theorem use_o {w : Nat → Int32} {nl j : Nat} (h4 : j ≠ 4) (h6 : j ≠ 6) (h : j < 22 ∨ 22 + (nl - 1) < j) : ∀ i, r_use w nl i j = w j
  | 0 => rfl
  | i + 1 => by
    show r_inc _ 6 j = _
    unfold r_inc
    rw [upd_n h6, lgo_o h4 (by omega)]
    exact use_o h4 h6 h i
def r_tkp (w : Nat → Int32) (pc : Nat) : Nat → Int32 := if pc = 0 then w else upd w (42 + pc) (w (42 + pc) - 1)
def r_md1 (w : Nat → Int32) (p pc : Nat) : Nat → Int32 := upd (upd (upd w (49 + 5 * p + 0) (pw w p 0 + nI pc)) (49 + 5 * p + 1) 0) (49 + 5 * p + 2) 0
def r_men (w : Nat → Int32) (p pc nb lm nl : Nat) : Nat → Int32 := r_lvb (r_inc (r_inc (r_md1 (r_tkp (r_use w nl lm) pc) p pc) (49 + 5 * p + 3)) 9) nb 0
def r_why (w : Nat → Int32) (p : Nat) : Int32 := if 3 ≤ pw w p 0 then (if pw w p 1 ≤ 2 then (if pw w p 2 ≤ 4 then -1 else 2) else 1) else 0
def o_smk (w : Nat → Int32) (p : Int32) (nb pn : Nat) : Why := if isP w p = false then some (1, p, 0, 0) else if r_find w p nb 0 < 0 then (if r_why w pn < 0 then none else some (12, r_why w pn, 0, 0)) else some (5, r_find w p nb 0, 0, 0)
def r_sm1 (w : Nat → Int32) (p : Nat) : Nat → Int32 := upd w (49 + 5 * p + 2) (hld (pw w p 2 + 1))
def r_sm2 (w : Nat → Int32) (p : Nat) : Nat → Int32 := if pw w p 2 < 4 then w else upd w (49 + 5 * p + 1) (hld (pw w p 1 + 1))
def r_smk (w : Nat → Int32) (p : Nat) : Nat → Int32 := r_inc (r_inc (r_sm2 (r_sm1 w p) p) (49 + 5 * p + 4)) 10
def r_dr1 (w : Nat → Int32) (p ht : Nat) : Nat → Int32 := upd w (49 + 5 * p + 0) (if 0 ≤ pw w p 0 - nI (ht / 2) then pw w p 0 - nI (ht / 2) else 0)
def r_drp (w : Nat → Int32) (p ht : Nat) : Nat → Int32 := upd (r_dr1 w p ht) (49 + 5 * p + 1) (hld (pw (r_dr1 w p ht) p 1 + nI (ht / 3)))
def o_drp (w : Nat → Int32) (p ht : Int32) : Why := if isP w p = false then some (1, p, 0, 0) else if btw ht 1 9 = false then some (3, ht, 0, 0) else none
def o_cut (w : Nat → Int32) (p v : Int32) (pn : Nat) : Why := if isP w p = false then some (1, p, 0, 0) else if btw v 1 6 = false then some (3, v, 0, 0) else if pw w pn 0 < v then some (18, pw w pn 0, 0, 0) else if r_pcs w 6 = 24 then some (4, 24, 0, 0) else none
def r_cut (w : Nat → Int32) (p i : Nat) : Nat → Int32 := r_pcm (upd w (49 + 5 * p + 0) (pw w p 0 - nI i)) i
/-- of the pipes below k the first that was smoked most -/
def r_mst (w : Nat → Int32) : Nat → Nat
  | 0 => 0
  | k + 1 => if pw w k 4 ≤ pw w (r_mst w k) 4 then r_mst w k else k
theorem mst_lt (w : Nat → Int32) : ∀ k, r_mst w k ≤ k - 1
  | 0 => Nat.le_refl _
  | 1 => by unfold r_mst; split <;> exact Nat.le_refl _
  | k + 2 => by
    have := mst_lt w (k + 1)
    unfold r_mst
    split <;> omega
theorem mst_1 (w : Nat → Int32) : r_mst w 1 = 0 := by unfold r_mst; split <;> rfl
theorem cpy_back {w w1 f : Nat → Int32} (h : ∀ k, 99 ≤ k → w1 k = w k) : va_cpy (va_cpy w f 0 0 99) w1 0 0 99 = w := by
  funext k
  unfold va_cpy
  by_cases hk : k < 99
  · rw [if_pos (by omega), if_pos (by omega), show 0 + (0 + (k - 0) - 0) = k by omega]
  · rw [if_neg (by omega)]
    exact h k (by omega)
def o_prt (w : Nat → Int32) (p : Int32) : Why := if btw p 0 7 = false then some (2, p, 0, 0) else if r_tk w p = true then some (13, p, 0, 0) else none
def r_prt (w : Nat → Int32) (p : Int32) : Nat → Int32 := upd w 11 (w 11 ||| ((1 : Int32) <<< (p &&& 31)))
def r_nxt (w : Nat → Int32) : Nat → Nat → Nat
  | 0, t => t
  | n + 1, t => if r_tk w (nI t) = true then r_nxt w n ((t + 1) % 8) else t
def r_fre (w : Nat → Int32) (t n : Nat) : Prop := ∃ j, j < n ∧ r_tk w (nI ((t + j) % 8)) = false
def o_scr (w : Nat → Int32) (p : Int32) : Why := if btw p 0 7 = false then some (2, p, 0, 0) else if r_tk w p = false then some (14, p, 0, 0) else if r_par w 8 = 8 then some (15, 8, 0, 0) else none
def r_scr (w : Nat → Int32) (p t : Nat) : Nat → Int32 := upd w 11 ((w 11 &&& (((1 : Int32) <<< (nI p &&& 31)) ^^^ (-1 : Int32))) ||| ((1 : Int32) <<< (nI t &&& 31)))
def r_prs (w : Nat → Int32) : Nat → Nat
  | 0 => 0
  | k + 1 => r_prs w k + (if r_tk w (nI k) = true ∧ r_tk w (nI (k + 1)) = true then 1 else 0)
theorem prs_le (w : Nat → Int32) : ∀ k, r_prs w k ≤ k
  | 0 => Nat.le_refl _
  | k + 1 => by
    have := prs_le w k
    unfold r_prs
    split <;> omega
def r_bk1 (w : Nat → Int32) (i : Nat) : Nat → Int32 := r_inc (if i ≤ 1 then upd w (42 + i) (w (42 + i) - 1) else r_inc (upd w (42 + i) (w (42 + i) - 1)) (42 + i - 1)) 8
def r_brk (w : Nat → Int32) : Nat → Nat → Int32
  | 0 => w
  | n + 1 => if r_lng w 6 ≤ 0 then w else r_brk (r_bk1 w (r_lng w 6)) n
def r_dry : Nat → (Nat → Int32) → Nat → Nat → (Nat → Int32) × Nat × Nat
  | 0, w, nl, d => (w, nl, d)
  | k + 1, w, nl, d => if (upd w (22 + k) (w (22 + k) - 1)) (22 + k) ≤ 0 then r_dry k (r_lgo (upd w (22 + k) (w (22 + k) - 1)) nl k) (nl - 1) (d + 1) else r_dry k (upd w (22 + k) (w (22 + k) - 1)) nl d
def r_drW (w : Nat → Int32) (nl : Nat) : Nat → Int32 := upd (r_dry nl w nl 0).1 7 ((r_dry nl w nl 0).1 7 + nI (r_dry nl w nl 0).2.2)
theorem dec_1 (x : Int32) : x + Int32.ofInt (-1) = x - 1 := (Int32.sub_eq_add_neg x 1).symm
def hN (w : Nat → Int32) : Nat := (w 0).toNatClampNeg
def lNn (w : Nat → Int32) : Nat := (w 4).toNatClampNeg
def r_hb (w : Nat → Int32) : Nat → Int32 := if r_drm w (nI (hN w % 24)) = true then w else r_brk w (r_prs w 7)
def r_hr (w : Nat → Int32) : Nat → Int32 := r_inc (r_drW (r_hb w) (lNn w)) 0
def r_hd (w : Nat → Int32) : Nat := (r_dry (lNn w) (r_hb w) (lNn w) 0).2.2
def r_pas (w : Nat → Int32) : Nat → Nat → Int32
  | 0 => w
  | n + 1 => r_hr (r_pas w n)
def r_pad (w : Nat → Int32) : Nat → Nat
  | 0 => 0
  | n + 1 => r_pad w n + r_hd (r_pas w n)
def o_hour (v : Int32) : Why := if btw v 1 48 = false then some (3, v, 0, 0) else none
theorem bk1_lo {w : Nat → Int32} {i j : Nat} (hj : j < 8) : r_bk1 w i j = w j := by
  unfold r_bk1 r_inc
  rw [upd_n (by omega)]
  split
  · rw [upd_n (by omega)]
  · rw [upd_n (by omega), upd_n (by omega)]
theorem brk_lo {j : Nat} (hj : j < 8) : ∀ (n : Nat) (w : Nat → Int32), r_brk w n j = w j
  | 0, _ => rfl
  | n + 1, w => by
    unfold r_brk
    split
    · rfl
    · rw [brk_lo hj n, bk1_lo hj]
theorem dry_lo {j : Nat} (hj : j < 22) (h4 : j ≠ 4) : ∀ (n : Nat) (w : Nat → Int32) (nl d : Nat), (r_dry n w nl d).1 j = w j
  | 0, _, _, _ => rfl
  | n + 1, w, nl, d => by
    unfold r_dry
    split
    · rw [dry_lo hj h4 n, lgo_o h4 (by omega), upd_n (by omega)]
    · rw [dry_lo hj h4 n, upd_n (by omega)]
theorem dry_4 : ∀ (n : Nat) (w : Nat → Int32) (nl d : Nat), w 4 = nI nl → n ≤ nl → ∃ m, m ≤ nl ∧ (r_dry n w nl d).1 4 = nI m
  | 0, w, nl, d, h, _ => ⟨nl, Nat.le_refl _, h⟩
  | n + 1, w, nl, d, h, hn => by
    unfold r_dry
    split
    · obtain ⟨m, h1, h2⟩ := dry_4 n (r_lgo (upd w (22 + n) (w (22 + n) - 1)) nl n) (nl - 1) (d + 1) lgo_4 (by omega)
      exact ⟨m, by omega, h2⟩
    · exact dry_4 n _ nl d (by rw [upd_n (by omega)]; exact h) (by omega)
theorem hb_lo {w : Nat → Int32} {j : Nat} (hj : j < 8) : r_hb w j = w j := by
  unfold r_hb
  split
  · rfl
  · exact brk_lo hj 7 w |> fun _ => brk_lo hj _ w
theorem hr_0 {w : Nat → Int32} {h : Nat} (h0 : w 0 = nI h) : r_hr w 0 = nI (h + 1) := by
  unfold r_hr r_inc
  rw [upd_s]
  unfold r_drW
  rw [upd_n (by decide), dry_lo (by decide) (by decide), hb_lo (by decide), h0, nI_1]
theorem hr_4 {w : Nat → Int32} {nl : Nat} (h4 : w 4 = nI nl) (hl : nl ≤ 20) : ∃ m, m ≤ 20 ∧ r_hr w 4 = nI m := by
  have hn : lNn w = nl := by unfold lNn; rw [h4]; exact nI_clamp (by omega)
  unfold r_hr r_inc
  rw [upd_n (by decide)]
  unfold r_drW
  rw [upd_n (by decide), hn]
  obtain ⟨m, h1, h2⟩ := dry_4 nl (r_hb w) nl 0 (by rw [hb_lo (by decide)]; exact h4) (Nat.le_refl _)
  exact ⟨m, by omega, h2⟩
theorem pas_ok {w : Nat → Int32} {h nl : Nat} (h0 : w 0 = nI h) (h4 : w 4 = nI nl) (hl : nl ≤ 20) : ∀ i, r_pas w i 0 = nI (h + i) ∧ ∃ m, m ≤ 20 ∧ r_pas w i 4 = nI m
  | 0 => ⟨h0, nl, hl, h4⟩
  | i + 1 => by
    obtain ⟨e1, m, e2, e3⟩ := pas_ok h0 h4 hl i
    exact ⟨hr_0 e1, hr_4 e3 e2⟩
theorem dry_d : ∀ (n : Nat) (w : Nat → Int32) (nl d : Nat), (r_dry n w nl d).2.2 ≤ d + n
  | 0, _, _, _ => Nat.le_refl _
  | n + 1, w, nl, d => by
    unfold r_dry
    split
    · have := dry_d n (r_lgo (upd w (22 + n) (w (22 + n) - 1)) nl n) (nl - 1) (d + 1)
      omega
    · have := dry_d n (upd w (22 + n) (w (22 + n) - 1)) nl d
      omega
theorem sw6 (x : Int32) : x = 0 ∨ x = 1 ∨ x = 2 ∨ x = 3 ∨ x = 4 ∨ x = 5 ∨ ((x.toInt < 0 ∨ 5 < x.toInt) ∧ ¬ x = 0 ∧ ¬ x = 1 ∧ ¬ x = 2 ∧ ¬ x = 3 ∧ ¬ x = 4 ∧ ¬ x = 5) := by
  by_cases h0 : x = 0
  · exact Or.inl h0
  by_cases h1 : x = 1
  · exact Or.inr (Or.inl h1)
  by_cases h2 : x = 2
  · exact Or.inr (Or.inr (Or.inl h2))
  by_cases h3 : x = 3
  · exact Or.inr (Or.inr (Or.inr (Or.inl h3)))
  by_cases h4 : x = 4
  · exact Or.inr (Or.inr (Or.inr (Or.inr (Or.inl h4))))
  by_cases h5 : x = 5
  · exact Or.inr (Or.inr (Or.inr (Or.inr (Or.inr (Or.inl h5)))))
  refine Or.inr (Or.inr (Or.inr (Or.inr (Or.inr (Or.inr ⟨?_, h0, h1, h2, h3, h4, h5⟩)))))
  have e0 : ¬ x.toInt = 0 := fun e => h0 (Int32.toInt_inj.mp e)
  have e1 : ¬ x.toInt = 1 := fun e => h1 (Int32.toInt_inj.mp e)
  have e2 : ¬ x.toInt = 2 := fun e => h2 (Int32.toInt_inj.mp e)
  have e3 : ¬ x.toInt = 3 := fun e => h3 (Int32.toInt_inj.mp e)
  have e4 : ¬ x.toInt = 4 := fun e => h4 (Int32.toInt_inj.mp e)
  have e5 : ¬ x.toInt = 5 := fun e => h5 (Int32.toInt_inj.mp e)
  omega
def q_pipe (w : Nat → Int32) (p what : Int32) (nb pn : Nat) : Int32 × Int32 := if isP w p = false then (1, 0) else if what = 0 then (0, pw w pn 0) else if what = 1 then (0, pw w pn 1) else if what = 2 then (0, pw w pn 2) else if what = 3 then (0, r_find w p nb 0) else if what = 4 then (0, pw w pn 3) else if what = 5 then (0, pw w pn 4) else (2, 0)
def q_draws (w : Nat → Int32) (p : Int32) (pn : Nat) : Int32 × Int32 := if isP w p = false then (1, 0) else (0, bI (decide (r_why w pn < 0)))
def q_bench (w : Nat → Int32) (p : Int32) (pn : Nat) : Int32 × Int32 := if btw p 0 (w 3 - 1) = false then (1, 0) else (0, w (12 + pn))
def q_lump (w : Nat → Int32) (p : Int32) (pn : Nat) : Int32 × Int32 := if btw p 0 (w 4 - 1) = false then (1, 0) else (0, w (22 + pn))
def q_pcs (w : Nat → Int32) (p : Int32) (i : Nat) : Int32 × Int32 := if btw p 1 6 = false then (1, 0) else (0, w (42 + i))
def r_atl (w : Nat → Int32) (i : Nat) : Nat → Int32
  | 0 => 0
  | n + 1 => r_atl w i n + w (42 + (i + n))
def q_atl (w : Nat → Int32) (p : Int32) (i : Nat) : Int32 × Int32 := if btw p 1 6 = false then (1, 0) else (0, r_atl w i (7 - i))
def r_dst (w : Nat → Int32) : Nat → Nat
  | 0 => 0
  | k + 1 => if w (22 + r_dst w k) ≤ w (22 + k) then r_dst w k else k
theorem dst_1 (w : Nat → Int32) : r_dst w 1 = 0 := by unfold r_dst; split <;> rfl
def q_dst (w : Nat → Int32) (nl : Nat) : Int32 × Int32 := if nl = 0 then (1, 0) else (0, nI (r_dst w nl))
def q_mst (w : Nat → Int32) (np : Nat) : Int32 × Int32 := if np = 0 then (1, 0) else (0, nI (r_mst w np))
def r_bsd (w : Nat → Int32) (p : Nat) : Bool := if p ≤ 0 then (if 8 ≤ p + 1 then false else r_tk w (nI (p + 1))) else if r_tk w (nI (p - 1)) = true then true else if 8 ≤ p + 1 then false else r_tk w (nI (p + 1))
def r_aln (w : Nat → Int32) : Nat → Int32
  | 0 => 0
  | k + 1 => r_aln w k ||| (if r_tk w (nI k) = true ∧ r_bsd w k = false then (1 : Int32) <<< (nI k &&& 31) else 0)
def bnN (w : Nat → Int32) (k : Nat) : Nat := (w (12 + k)).toNatClampNeg
def stN (w : Nat → Int32) (p : Nat) : Nat := (pw w p 0).toNatClampNeg
def r_ned (w : Nat → Int32) : Nat → Int32
  | 0 => 0
  | k + 1 => r_ned w k + r_lum w (bnN w k)
def m_mdS (S w : Nat → Int32) : Nat → Nat → Int32
  | 0 => S
  | k + 1 => nS (m_mdS S w k) (o_mdd w k (stN w k))
def r_mdb (w : Nat → Int32) : Nat → Int32
  | 0 => 0
  | k + 1 => r_mdb w k ||| (if (o_mdd w k (stN w k)).isNone then (1 : Int32) <<< (nI k &&& 31) else 0)
def q_lng (w : Nat → Int32) : Int32 × Int32 := if r_lng w 6 = 0 then (1, 0) else (0, nI (r_lng w 6))
def q_sits (w : Nat → Int32) (p : Int32) : Int32 × Int32 := if btw p 0 7 = false then (1, 0) else (0, bI (r_tk w p))
def q_nxt (w : Nat → Int32) (p : Int32) (pn : Nat) : Int32 × Int32 := if btw p 0 7 = false then (1, 0) else if r_par w 8 = 8 then (2, 0) else (0, nI (r_nxt w 8 ((pn + 1) % 8)))
def q_lum (w : Nat → Int32) (p : Int32) (pn : Nat) : Int32 × Int32 := if isP w p = false then (1, 0) else (0, r_lum w pn)
def q_pfor (w : Nat → Int32) (p : Int32) (pn : Nat) : Int32 × Int32 := if isP w p = false then (1, 0) else if r_pof w (stN w pn) < 0 then (2, 0) else (0, r_pof w (stN w pn))
def r_ahd (w : Nat → Int32) (a b : Nat) : Bool := if pw w a 0 = pw w b 0 then (if pw w a 1 = pw w b 1 then !decide (b ≤ a) else decide (pw w a 1 < pw w b 1)) else decide (pw w b 0 < pw w a 0)
def r_rnk (w : Nat → Int32) (p : Nat) : Nat → Nat
  | 0 => 0
  | k + 1 => r_rnk w p k + (if r_ahd w k p = true then 1 else 0)
theorem rnk_le (w : Nat → Int32) (p : Nat) : ∀ k, r_rnk w p k ≤ k
  | 0 => Nat.le_refl _
  | k + 1 => by
    have := rnk_le w p k
    unfold r_rnk
    split <;> omega
def r_rkd (w : Nat → Int32) (np : Nat) (place : Int32) : Nat → Nat → Int32 × Int32
  | 0, _ => (1, 0)
  | n + 1, p => if nI (r_rnk w p np) = place then (0, nI p) else r_rkd w np place n (p + 1)
def r_sml (p : Int32) (nb pn : Nat) : Nat → (Nat → Int32) → (Nat → Int32) × Nat
  | 0, w => (w, 0)
  | f + 1, w => if (o_smk w p nb pn).isNone then ((r_sml p nb pn f (r_smk w pn)).1, (r_sml p nb pn f (r_smk w pn)).2 + 1) else (w, 0)
theorem pas_hi {w : Nat → Int32} {k : Nat} (hk : 99 ≤ k) {nl : Nat} (h4 : w 4 = nI nl) (hl : nl ≤ 20) : r_hr w k = w k := by
  have hn : lNn w = nl := by unfold lNn; rw [h4]; exact nI_clamp (by omega)
  have hdr : ∀ (n : Nat) (w : Nat → Int32) (nl d : Nat), n ≤ nl → nl ≤ 20 → (r_dry n w nl d).1 k = w k := by
    intro n
    induction n with
    | zero => intro w nl d _ _; rfl
    | succ n ih =>
      intro w nl d h1 h2
      unfold r_dry
      split
      · rw [ih _ _ _ (by omega) (by omega), lgo_o (by omega) (by omega), upd_n (by omega)]
      · rw [ih _ _ _ (by omega) h2, upd_n (by omega)]
  have hbk : ∀ (n : Nat) (w : Nat → Int32), r_brk w n k = w k := by
    intro n
    induction n with
    | zero => intro w; rfl
    | succ n ih =>
      intro w
      have := lng_le w 6
      unfold r_brk
      split
      · rfl
      · rw [ih]
        unfold r_bk1 r_inc
        rw [upd_n (by omega)]
        split
        · rw [upd_n (by omega)]
        · rw [upd_n (by omega), upd_n (by omega)]
  unfold r_hr r_inc r_drW
  rw [upd_n (by omega), upd_n (by omega), hn, hdr _ _ _ _ (Nat.le_refl _) hl]
  unfold r_hb
  split
  · rfl
  · exact hbk _ _
theorem pass_hi {w : Nat → Int32} {h nl : Nat} (h0 : w 0 = nI h) (h4 : w 4 = nI nl) (hl : nl ≤ 20) {k : Nat} (hk : 99 ≤ k) : ∀ i, r_pas w i k = w k
  | 0 => rfl
  | i + 1 => by
    obtain ⟨e1, m, e2, e3⟩ := pas_ok h0 h4 hl i
    exact (pas_hi hk e3 e2).trans (pass_hi h0 h4 hl hk i)
