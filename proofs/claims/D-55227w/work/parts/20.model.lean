/-! THE REFERENCE (ClayPipesModel): its ten cells as one overlay; numbers by field place: S j the int field j, F j the contents of the array in field j -/
def mj : List Nat := [0, 1, 2, 7, 8, 9, 10, 14, 18, 21]
def mfs (A : Nat → Nat) (S : Nat → Int32) : List Value := [.int (S 0), .ref (A 1), .ref (A 2), .int (S 3), .int (S 4), .int (S 5), .int (S 6), .ref (A 7), .ref (A 8), .ref (A 9), .ref (A 10), .int (S 11), .int (S 12), .int (S 13), .ref (A 14), .int (S 15), .int (S 16), .int (S 17), .ref (A 18), .int (S 19), .int (S 20), .ref (A 21), .int (S 22)]
abbrev ziar (L : Nat) (f : Nat → Int32) : AO := .inl (.inl (.int, L, .inl f))
abbrev zcar (L : Nat) (f : Nat → Int32) : AO := .inl (.inl (.char, L, .inl f))
def mcell (A : Nat → Nat) (S : Nat → Int32) (F : Nat → Nat → Int32) (w : Nat → Int32) (j : Nat) : AO := match j with
  | 0 => .inl (.inr (2, mfs A S))
  | 1 => ziar 3 (F 1)
  | 2 => ziar 3 (F 2)
  | 7 => ziar 99 w
  | 8 => ziar 792 (F 8)
  | 9 => ziar 99 (F 9)
  | 10 => ziar 99 (F 10)
  | 14 => zcar 60 (F 14)
  | 18 => ziar 2 (F 18)
  | _ => zcar 90 (F 21)
def mok (A : Nat → Nat) : Prop := ∀ i ∈ mj, ∀ j ∈ mj, A i = A j → i = j
def mce (A : Nat → Nat) (S : Nat → Int32) (F : Nat → Nat → Int32) (w : Nat → Int32) : Hp := fun q => (mj.find? (fun j => A j == q)).map (mcell A S F w)
def mdl (A : Nat → Nat) (S : Nat → Int32) (F : Nat → Nat → Int32) (w : Nat → Int32) (g : Hp) : Hp := zov g (A 0) (mce A S F w)
def upA (F : Nat → Nat → Int32) (j : Nat) (f : Nat → Int32) : Nat → Nat → Int32 := fun i => if i = j then f else F i
theorem mce_at {A : Nat → Nat} (hA : mok A) {S : Nat → Int32} {F : Nat → Nat → Int32} {w : Nat → Int32} {j : Nat} (hj : j ∈ mj) : mce A S F w (A j) = some (mcell A S F w j) := by
  unfold mce
  cases hf : mj.find? (fun i => A i == A j) with
  | none =>
    have := List.find?_eq_none.mp hf j hj
    simp at this
  | some i =>
    have h1 := List.find?_some hf
    have h2 := List.mem_of_find?_eq_some hf
    have h3 : i = j := hA i h2 j hj (by simpa using h1)
    rw [h3]
    rfl
theorem mce_none {A : Nat → Nat} {S : Nat → Int32} {F : Nat → Nat → Int32} {w : Nat → Int32} {q : Nat} (h : ∀ j ∈ mj, A j ≠ q) : mce A S F w q = none := by
  unfold mce
  rw [List.find?_eq_none.mpr (fun j hj => by simpa using h j hj)]
  rfl
theorem mdl_at {A : Nat → Nat} (hA : mok A) {S : Nat → Int32} {F : Nat → Nat → Int32} {w : Nat → Int32} {g : Hp} {j : Nat} (hj : j ∈ mj) : mdl A S F w g (A j) = some (mcell A S F w j) := zov_in (mce_at hA hj)
theorem mdl_up {A : Nat → Nat} (hA : mok A) {S S' : Nat → Int32} {F F' : Nat → Nat → Int32} {w w' : Nat → Int32} {g : Hp} {j : Nat} {c : AO} (hj : j ∈ mj) (hc : c = mcell A S' F' w' j) (ho : ∀ i ∈ mj, i ≠ j → mcell A S' F' w' i = mcell A S F w i) : zup (mdl A S F w g) (A j) c = mdl A S' F' w' g := by
  subst hc
  unfold mdl
  rw [zov_up]
  congr 1
  funext q
  by_cases hq : q = A j
  · subst hq
    rw [zup_s, mce_at hA hj]
  · rw [zup_n _ _ hq]
    unfold mce
    cases hf : mj.find? (fun i => A i == q) with
    | none => rfl
    | some i =>
      have h1 := List.find?_some hf
      have h2 := List.mem_of_find?_eq_some hf
      have h3 : i ≠ j := fun e => hq (by subst e; exact (eq_of_beq h1).symm)
      show some (mcell A S F w i) = some (mcell A S' F' w' i)
      rw [ho i h2 h3]
theorem mdl_S {A : Nat → Nat} (hA : mok A) {S : Nat → Int32} {F : Nat → Nat → Int32} {w : Nat → Int32} {g : Hp} {S' : Nat → Int32} : zup (mdl A S F w g) (A 0) (.inl (.inr (2, mfs A S'))) = mdl A S' F w g := by
  refine mdl_up hA (by decide) rfl (fun i hi h0 => ?_)
  unfold mj at hi
  simp only [List.mem_cons, List.not_mem_nil, or_false] at hi
  rcases hi with rfl | rfl | rfl | rfl | rfl | rfl | rfl | rfl | rfl | rfl <;> first | exact absurd rfl h0 | rfl
theorem mdl_F {A : Nat → Nat} (hA : mok A) {S : Nat → Int32} {F : Nat → Nat → Int32} {w : Nat → Int32} {g : Hp} {j : Nat} (hj : j ∈ mj) (h0 : j ≠ 0) {f : Nat → Int32} : zup (mdl A S F w g) (A j) (mcell A S (upA F j f) w j) = mdl A S (upA F j f) w g := by
  refine mdl_up hA hj rfl (fun i hi hij => ?_)
  unfold mj at hi hj
  simp only [List.mem_cons, List.not_mem_nil, or_false] at hi hj
  rcases hi with rfl | rfl | rfl | rfl | rfl | rfl | rfl | rfl | rfl | rfl <;> first | rfl | exact congrArg (ziar _) (show upA F j f _ = F _ from if_neg hij) | exact congrArg (zcar _) (show upA F j f _ = F _ from if_neg hij)
theorem mdl_w {A : Nat → Nat} (hA : mok A) {S : Nat → Int32} {F : Nat → Nat → Int32} {w w' : Nat → Int32} {g : Hp} : zup (mdl A S F w g) (A 7) (ziar 99 w') = mdl A S F w' g := by
  refine mdl_up hA (by decide) rfl (fun i hi h0 => ?_)
  unfold mj at hi
  simp only [List.mem_cons, List.not_mem_nil, or_false] at hi
  rcases hi with rfl | rfl | rfl | rfl | rfl | rfl | rfl | rfl | rfl | rfl <;> first | exact absurd rfl h0 | rfl
section
variable {l : Launch} {s0 : State} {own nm : String} {cc : ByteArray} {nL : Nat} {ret : Option FieldType} {hh : List ExceptionTableEntry} {dp : Nat} {K : Res → Hp → Prop} {Z : ZT} {X : ZX} {pc q : Nat} {ls : List (Option Value)} {rest : List Value} {g : Hp} {k n : Nat} {A : Nat → Nat} {S : Nat → Int32} {F : Nat → Nat → Int32} {w : Nat → Int32} {idx j : Nat}
theorem mz_get (G : Good l s0 own nm cc nL ret hh dp K Z X) (hA : mok A) (hdg : decode cc pc = .ok (.getfield idx, 3)) (hq : pc + 3 = q) (hf : zFL own idx 2 j) {v : Value} (hv : (mfs A S)[j]? = some v) (kk : Z q ls (v :: rest) (mdl A S F w g) k n) : Z pc ls (.ref (A 0) :: rest) (mdl A S F w g) k n :=
  z_get G hdg hq hf (mdl_at hA (j := 0) (by decide)) hv kk
theorem mz_put (G : Good l s0 own nm cc nL ret hh dp K Z X) (hA : mok A) (hdg : decode cc pc = .ok (.putfield idx, 3)) (hq : pc + 3 = q) {tj : FieldType} (hf : zFP own idx 2 j tj) {x : Int32} (hn : narrow tj (.int x) = .int x) (hfit : fits tj (.int x) = true) (hl : j < 23) (hs : (mfs A S).set j (.int x) = mfs A (upd S j x)) (kk : Z q ls rest (mdl A (upd S j x) F w g) k n) : Z pc ls (.int x :: .ref (A 0) :: rest) (mdl A S F w g) k n := by
  refine z_put G hdg hq hf (fs := mfs A S) (mdl_at hA (j := 0) (by decide)) hn hfit hl ?_
  rw [hs, mdl_S hA]
  exact kk
theorem mz_ild (G : Good l s0 own nm cc nL ret hh dp K Z X) (hA : mok A) (j : Nat) (hj : j ∈ mj) {L : Nat} (hm : mcell A S F w j = ziar L (F j)) (hdg : decode cc pc = .ok (.iaload, 1)) (hq : pc + 1 = q) {i : Int32} (m : Nat) (hi : i = nI m) (hin : m < L) (hL : L < 2 ^ 31) (kk : Z q ls (.int (F j m) :: rest) (mdl A S F w g) k n) : Z pc ls (.int i :: .ref (A j) :: rest) (mdl A S F w g) k n := by
  subst hi
  refine z_iald G hdg hq (L := L) (f := F j) (by rw [mdl_at hA hj, hm]) (vp_in_nI hin hL) ?_
  rw [nI_clamp (Nat.lt_trans hin hL)]
  exact kk
theorem mz_ist (G : Good l s0 own nm cc nL ret hh dp K Z X) (hA : mok A) (j : Nat) (hj : j ∈ mj) (h0 : j ≠ 0) {L : Nat} (hm : ∀ F', mcell A S F' w j = ziar L (F' j)) (hdg : decode cc pc = .ok (.iastore, 1)) (hq : pc + 1 = q) {i x : Int32} (m : Nat) (hi : i = nI m) (hin : m < L) (hL : L < 2 ^ 31) (kk : Z q ls rest (mdl A S (upA F j (upd (F j) m x)) w g) k n) : Z pc ls (.int x :: .int i :: .ref (A j) :: rest) (mdl A S F w g) k n := by
  subst hi
  refine z_iast G hdg hq (L := L) (f := F j) (by rw [mdl_at hA hj, hm]) (vp_in_nI hin hL) ?_
  rw [nI_clamp (Nat.lt_trans hin hL)]
  have e : ziar L (upd (F j) m x) = mcell A S (upA F j (upd (F j) m x)) w j := by
    rw [hm]
    unfold upA
    rw [if_pos rfl]
  have h := mdl_F (S := S) (F := F) (w := w) (g := g) hA hj h0 (f := upd (F j) m x)
  rw [← e] at h
  exact z_heap G h kk
theorem mz_cld (G : Good l s0 own nm cc nL ret hh dp K Z X) (hA : mok A) (j : Nat) (hj : j ∈ mj) {L : Nat} (hm : mcell A S F w j = zcar L (F j)) (hdg : decode cc pc = .ok (.caload, 1)) (hq : pc + 1 = q) {i : Int32} (m : Nat) (hi : i = nI m) (hin : m < L) (hL : L < 2 ^ 31) (kk : Z q ls (.int (F j m) :: rest) (mdl A S F w g) k n) : Z pc ls (.int i :: .ref (A j) :: rest) (mdl A S F w g) k n := by
  subst hi
  refine z_cald G hdg hq (L := L) (f := F j) (by rw [mdl_at hA hj, hm]) (vp_in_nI hin hL) ?_
  rw [nI_clamp (Nat.lt_trans hin hL)]
  exact kk
theorem mz_cst (G : Good l s0 own nm cc nL ret hh dp K Z X) (hA : mok A) (j : Nat) (hj : j ∈ mj) (h0 : j ≠ 0) {L : Nat} (hm : ∀ F', mcell A S F' w j = zcar L (F' j)) (hdg : decode cc pc = .ok (.castore, 1)) (hq : pc + 1 = q) {i x : Int32} (m : Nat) (hi : i = nI m) (hin : m < L) (hL : L < 2 ^ 31) (kk : Z q ls rest (mdl A S (upA F j (upd (F j) m (vp_nar .char x))) w g) k n) : Z pc ls (.int x :: .int i :: .ref (A j) :: rest) (mdl A S F w g) k n := by
  subst hi
  refine z_cast G hdg hq (L := L) (f := F j) (by rw [mdl_at hA hj, hm]) (vp_in_nI hin hL) ?_
  rw [nI_clamp (Nat.lt_trans hin hL)]
  have e : zcar L (upd (F j) m (vp_nar .char x)) = mcell A S (upA F j (upd (F j) m (vp_nar .char x))) w j := by
    rw [hm]
    unfold upA
    rw [if_pos rfl]
  have h := mdl_F (S := S) (F := F) (w := w) (g := g) hA hj h0 (f := upd (F j) m (vp_nar .char x))
  rw [← e] at h
  exact z_heap G h kk
theorem mz_wld (G : Good l s0 own nm cc nL ret hh dp K Z X) (hA : mok A) (hdg : decode cc pc = .ok (.iaload, 1)) (hq : pc + 1 = q) {i : Int32} (m : Nat) (hi : i = nI m) (hin : m < 99) (kk : Z q ls (.int (w m) :: rest) (mdl A S F w g) k n) : Z pc ls (.int i :: .ref (A 7) :: rest) (mdl A S F w g) k n := by
  subst hi
  refine z_iald G hdg hq (L := 99) (f := w) (mdl_at hA (j := 7) (by decide)) (vp_in_nI hin (by decide)) ?_
  rw [nI_clamp (Nat.lt_trans hin (by decide))]
  exact kk
theorem mz_wst (G : Good l s0 own nm cc nL ret hh dp K Z X) (hA : mok A) (hdg : decode cc pc = .ok (.iastore, 1)) (hq : pc + 1 = q) {i x : Int32} (m : Nat) (hi : i = nI m) (hin : m < 99) (kk : Z q ls rest (mdl A S F (upd w m x) g) k n) : Z pc ls (.int x :: .int i :: .ref (A 7) :: rest) (mdl A S F w g) k n := by
  subst hi
  refine z_iast G hdg hq (L := 99) (f := w) (mdl_at hA (j := 7) (by decide)) (vp_in_nI hin (by decide)) ?_
  rw [nI_clamp (Nat.lt_trans hin (by decide))]
  exact z_heap G (mdl_w hA) kk
theorem mz_wldN (G : Good l s0 own nm cc nL ret hh dp K Z X) (hA : mok A) (hdg : decode cc pc = .ok (.iaload, 1)) (hq : pc + 1 = q) {i : Int32} (m : Nat) (hi : i = nI m) (hin : m < 99) (b : Nat) (hb : w m = nI b) (kk : Z q ls (.int (nI b) :: rest) (mdl A S F w g) k n) : Z pc ls (.int i :: .ref (A 7) :: rest) (mdl A S F w g) k n := by
  refine mz_wld G hA hdg hq m hi hin ?_
  rw [hb]
  exact kk
theorem mz_getN (G : Good l s0 own nm cc nL ret hh dp K Z X) (hA : mok A) (hdg : decode cc pc = .ok (.getfield idx, 3)) (hq : pc + 3 = q) (hf : zFL own idx 2 j) {x : Int32} (hv : (mfs A S)[j]? = some (.int x)) (b : Nat) (hb : x = nI b) (kk : Z q ls (.int (nI b) :: rest) (mdl A S F w g) k n) : Z pc ls (.ref (A 0) :: rest) (mdl A S F w g) k n := by
  subst hb
  exact mz_get G hA hdg hq hf hv kk
theorem z_iremN (G : Good l s0 own nm cc nL ret hh dp K Z X) {x y : Int32} (a d : Nat) (hx : x = nI a) (hy : y = nI d) (ha : a < 2 ^ 31) (h0 : 0 < d) (hd : d < 2 ^ 31) (hdg : decode cc pc = .ok (.irem, 1)) (hq : pc + 1 = q) (kk : Z q ls (.int (nI (a % d)) :: rest) g k n) : Z pc ls (.int y :: .int x :: rest) g k n := by
  subst hx; subst hy
  refine z_irem G hdg hq (nI_ne0 h0 hd) ?_
  rw [pk_rem ha h0 hd]
  exact kk
theorem z_idivN (G : Good l s0 own nm cc nL ret hh dp K Z X) {x y : Int32} (a d : Nat) (hx : x = nI a) (hy : y = nI d) (ha : a < 2 ^ 31) (h0 : 0 < d) (hd : d < 2 ^ 31) (hdg : decode cc pc = .ok (.idiv, 1)) (hq : pc + 1 = q) (kk : Z q ls (.int (nI (a / d)) :: rest) g k n) : Z pc ls (.int y :: .int x :: rest) g k n := by
  subst hx; subst hy
  refine z_idiv G hdg hq (nI_ne0 h0 hd) ?_
  rw [pk_div ha h0 hd]
  exact kk
theorem z_isubN (G : Good l s0 own nm cc nL ret hh dp K Z X) {x y : Int32} (a b : Nat) (hx : x = nI a) (hy : y = nI b) (h : b ≤ a) (hdg : decode cc pc = .ok (.isub, 1)) (hq : pc + 1 = q) (kk : Z q ls (.int (nI (a - b)) :: rest) g k n) : Z pc ls (.int y :: .int x :: rest) g k n := by
  subst hx; subst hy
  refine z_isub G hdg hq ?_
  rw [pk_sub h]
  exact kk
theorem z_iaddN (G : Good l s0 own nm cc nL ret hh dp K Z X) {x y : Int32} (a b : Nat) (hx : x = nI a) (hy : y = nI b) (hdg : decode cc pc = .ok (.iadd, 1)) (hq : pc + 1 = q) (kk : Z q ls (.int (nI (a + b)) :: rest) g k n) : Z pc ls (.int y :: .int x :: rest) g k n := by
  subst hx; subst hy
  refine z_iadd G hdg hq ?_
  rw [nI_add]
  exact kk
theorem z_imulN (G : Good l s0 own nm cc nL ret hh dp K Z X) {x y : Int32} (a b : Nat) (hx : x = nI a) (hy : y = nI b) (hdg : decode cc pc = .ok (.imul, 1)) (hq : pc + 1 = q) (kk : Z q ls (.int (nI (a * b)) :: rest) g k n) : Z pc ls (.int y :: .int x :: rest) g k n := by
  subst hx; subst hy
  refine z_imul G hdg hq ?_
  rw [pk_mul]
  exact kk
theorem mhas {l : Launch} {s0 : State} (hA : mok A) : zhas l s0 (mdl A S F w g) (A 0) "ClayPipesModel" := zhas_K (mdl_at hA (j := 0) (by decide)) (zisK_raw 2 _) k_X3
end
theorem bI_f {b : Bool} (h : bI b = 0) : b = false := by cases b with
  | false => rfl
  | true => exact absurd h (by decide)
theorem bI_t {b : Bool} (h : ¬ bI b = 0) : b = true := by cases b with
  | false => exact absurd rfl h
  | true => rfl
theorem bI_nar (b : Bool) : narrow .boolean (.int (bI b)) = .int (bI b) := by cases b <;> rfl
theorem btw_t {v lo hi : Int32} (h1 : lo ≤ v) (h2 : v ≤ hi) : btw v lo hi = true := by simp [btw, h1, h2]
theorem btw_1 {v lo hi : Int32} (h1 : ¬ lo ≤ v) : btw v lo hi = false := by simp [btw, h1]
theorem btw_2 {v lo hi : Int32} (h1 : ¬ v ≤ hi) : btw v lo hi = false := by simp [btw, h1]
theorem upA_s (F : Nat → Nat → Int32) (j : Nat) (f : Nat → Int32) : upA F j f j = f := if_pos rfl
theorem upA_upA (F : Nat → Nat → Int32) (j : Nat) (f f' : Nat → Int32) : upA (upA F j f) j f' = upA F j f' := by
  funext i
  unfold upA
  by_cases h : i = j
  · rw [if_pos h, if_pos h]
  · rw [if_neg h, if_neg h, if_neg h]
theorem upA_id (F : Nat → Nat → Int32) (j : Nat) : upA F j (F j) = F := by
  funext i
  unfold upA
  by_cases h : i = j
  · rw [if_pos h, h]
  · rw [if_neg h]
theorem kmS_8 {S : Nat → Int32} {f : Nat} : upd (upd (upd S 12 (nI ((f + 1) % 8))) 11 (nI (8 - 1))) 11 (upd (upd S 12 (nI ((f + 1) % 8))) 11 (nI (8 - 1)) 11 + 1) = m_kmS S 8 f := by
  unfold m_kmS
  rw [if_pos rfl, upd_upd]
  rfl
theorem kmS_n {S : Nat → Int32} {c f : Nat} (h : S 11 = nI c) (hc : ¬ c = 8) : upd S 11 (S 11 + 1) = m_kmS S c f := by
  unfold m_kmS
  rw [if_neg hc, h, nI_1]
