/-! THE CONTEXT: classes by number, ghost constants, what a walk of a method may use, contracts -/
set_option maxRecDepth 100000
def zcl : List vw_C := [(RX1, TX1, 8), (RX2, TX2, 13), (RX3, TX3, 23), (RX4, TX4, 3), (RX5, TX5, 5), (RX6, TX6, 1), (RX7, TX7, 5), (RX8, TX8, 3), (RJ2, TJ2, 3), (RJ4, TJ4, 4), (RJ5, TJ5, 3), (RJ6, TJ6, 3), (RJ8, TJ8, 4), (RJ9, TJ9, 4), (RJ15, TJ15, 4), (RJ29, TJ29, 5), (RJ30, TJ30, 3), (RJ31, TJ31, 4), (RJ42, TJ42, 2)]
def ztyl : List FieldType := [.int, .long, .double, .char, .byte, .object "java/lang/Object"]
noncomputable def zG (s0 : State) : va_G := Classical.epsilon (fun D : va_G => ∀ (c : Nat) (q : vw_C), zcl[c]? = some q → u_Kn s0 q.1 q.2.1 q.2.2 (D.1 c) (D.2 c))
def zAC (s0 : State) (ty : FieldType) : ClassId := (s0.vm.findClass ("[" ++ ty.toString)).getD 0
def ztys (s0 : State) : List (ClassId × FieldType) := ztyl.map (fun ty => (zAC s0 ty, ty))
/-- the start: flags, words, what the Statement gives -/
def St0 (l : Launch) (s0 : State) : Prop := l.flags = flags0 ∧ ∃ b0 : Addr, (∀ w ∈ lw_tbl, w.before #[Value.ref b0] s0 = true) ∧ (Jvm.Cond.and given_1 narrow_1).before #[Value.ref b0] s0 = true
theorem zcl_kn {s0 : State} {b0 : Addr} (ht : ∀ w ∈ lw_tbl, w.before #[Value.ref b0] s0 = true) : ∀ q ∈ zcl, ∃ (cC : ClassId) (iS : Nat → Nat), u_Kn s0 q.1 q.2.1 q.2.2 cC iS := by
  intro q hq
  unfold zcl at hq
  simp only [List.mem_cons, List.not_mem_nil, or_false] at hq
  rcases hq with rfl | rfl | rfl | rfl | rfl | rfl | rfl | rfl | rfl | rfl | rfl | rfl | rfl | rfl | rfl | rfl | rfl | rfl | rfl
  · exact u_known (C := RX1) (T := TX1) (N := 8) (n := 8) ht (fun w h => lw_all_tbl (in_X1 w h)) (ht _ (lw_all_tbl q174))
  · exact u_known (C := RX2) (T := TX2) (N := 13) (n := 13) ht (fun w h => lw_all_tbl (in_X2 w h)) (ht _ (lw_all_tbl q182))
  · exact u_known (C := RX3) (T := TX3) (N := 23) (n := 23) ht (fun w h => lw_all_tbl (in_X3 w h)) (ht _ (lw_all_tbl q2580))
  · exact u_known (C := RX4) (T := TX4) (N := 3) (n := 3) ht (fun w h => lw_all_tbl (in_X4 w h)) (ht _ (lw_all_tbl q1610))
  · exact u_known (C := RX5) (T := TX5) (N := 5) (n := 5) ht (fun w h => lw_all_tbl (in_X5 w h)) (ht _ (lw_all_tbl q1047))
  · exact u_known (C := RX6) (T := TX6) (N := 1) (n := 1) ht (fun w h => lw_all_tbl (in_X6 w h)) (ht _ (lw_all_tbl q1246))
  · exact u_known (C := RX7) (T := TX7) (N := 5) (n := 5) ht (fun w h => lw_all_tbl (in_X7 w h)) (ht _ (lw_all_tbl q2182))
  · exact u_known (C := RX8) (T := TX8) (N := 3) (n := 3) ht (fun w h => lw_all_tbl (in_X8 w h)) (ht _ (lw_all_tbl q2425))
  · exact u_known (C := RJ2) (T := TJ2) (N := 3) (n := 3) ht (fun w h => lw_all_tbl (in_J2 w h)) (ht _ (lw_all_tbl q188))
  · exact u_known (C := RJ4) (T := TJ4) (N := 4) (n := 4) ht (fun w h => lw_all_tbl (in_J4 w h)) (ht _ (lw_all_tbl q221))
  · exact u_known (C := RJ5) (T := TJ5) (N := 3) (n := 3) ht (fun w h => lw_all_tbl (in_J5 w h)) (ht _ (lw_all_tbl q242))
  · exact u_known (C := RJ6) (T := TJ6) (N := 3) (n := 3) ht (fun w h => lw_all_tbl (in_J6 w h)) (ht _ (lw_all_tbl q262))
  · exact u_known (C := RJ8) (T := TJ8) (N := 4) (n := 4) ht (fun w h => lw_all_tbl (in_J8 w h)) (ht _ (lw_all_tbl q342))
  · exact u_known (C := RJ9) (T := TJ9) (N := 4) (n := 4) ht (fun w h => lw_all_tbl (in_J9 w h)) (ht _ (lw_all_tbl q607))
  · exact u_known (C := RJ15) (T := TJ15) (N := 4) (n := 4) ht (fun w h => lw_all_tbl (in_J15 w h)) (ht _ (lw_all_tbl q770))
  · exact u_known (C := RJ29) (T := TJ29) (N := 5) (n := 5) ht (fun w h => lw_all_tbl (in_J29 w h)) (ht _ (lw_all_tbl q1162))
  · exact u_known (C := RJ30) (T := TJ30) (N := 3) (n := 3) ht (fun w h => lw_all_tbl (in_J30 w h)) (ht _ (lw_all_tbl q1195))
  · exact u_known (C := RJ31) (T := TJ31) (N := 4) (n := 4) ht (fun w h => lw_all_tbl (in_J31 w h)) (ht _ (lw_all_tbl q1220))
  · exact u_known (C := RJ42) (T := TJ42) (N := 2) (n := 2) ht (fun w h => lw_all_tbl (in_J42 w h)) (ht _ (lw_all_tbl q2243))
theorem zG_ok {s0 : State} {b0 : Addr} (ht : ∀ w ∈ lw_tbl, w.before #[Value.ref b0] s0 = true) : ∀ (c : Nat) (q : vw_C), zcl[c]? = some q → u_Kn s0 q.1 q.2.1 q.2.2 ((zG s0).1 c) ((zG s0).2 c) := by
  have h : ∀ c : Nat, ∃ x : ClassId × (Nat → Nat), ∀ q : vw_C, zcl[c]? = some q → u_Kn s0 q.1 q.2.1 q.2.2 x.1 x.2 := by
    intro c
    cases hc : zcl[c]? with
    | none => exact ⟨(0, fun _ => 0), fun q hq => by cases hq⟩
    | some q =>
      obtain ⟨cC, iS, hk⟩ := zcl_kn ht q (List.mem_of_getElem? hc)
      exact ⟨(cC, iS), fun q' hq => by cases hq; exact hk⟩
  have hex : ∃ D : va_G, ∀ (c : Nat) (q : vw_C), zcl[c]? = some q → u_Kn s0 q.1 q.2.1 q.2.2 (D.1 c) (D.2 c) := ⟨(fun c => (Classical.choose (h c)).1, fun c => (Classical.choose (h c)).2), fun c q hq => Classical.choose_spec (h c) q hq⟩
  exact Classical.epsilon_spec hex
theorem zprim_ok {s0 : State} {b0 : Addr} {ty : FieldType} (h : (Cond.arrayClass ty).before #[Value.ref b0] s0 = true) : ArrOfT s0 (zAC s0 ty) ty ∧ s0.vm.findClass ("[" ++ ty.toString) = some (zAC s0 ty) := by
  obtain ⟨c, k, comp, h1, h2, h3⟩ := Cond.arrayClass_spec h
  have e : zAC s0 ty = c := by unfold zAC; rw [h1]; rfl
  rw [e]
  exact ⟨fun n z => ⟨(fun k h => by cases h), k, h2, comp, h3⟩, h1⟩
theorem ztys_ok {s0 : State} {b0 : Addr} (ht : ∀ w ∈ lw_tbl, w.before #[Value.ref b0] s0 = true) : ∀ ty ∈ ztyl, ArrOfT s0 (zAC s0 ty) ty ∧ va_RA s0 (zAC s0 ty) ty := by
  intro ty hq
  unfold ztyl at hq
  simp only [List.mem_cons, List.not_mem_nil, or_false] at hq
  rcases hq with rfl | rfl | rfl | rfl | rfl | rfl
  · exact zprim_ok (ht _ (lw_all_tbl q284))
  · exact zprim_ok (ht _ (lw_all_tbl q285))
  · exact zprim_ok (ht _ (lw_all_tbl q3177))
  · exact zprim_ok (ht _ (lw_all_tbl q2655))
  · exact zprim_ok (ht _ (lw_all_tbl q373))
  · obtain ⟨comp, c, k, h1, h2, h3, h4, h5⟩ := Cond.arrayOver_spec (ht _ q248)
    have e : zAC s0 (.object "java/lang/Object") = c := by unfold zAC; rw [h5]; rfl
    rw [e]
    exact ⟨fun n z => ⟨(fun k h => by cases h), k, h3, comp, h4⟩, k, comp, h3, h4, h1, h5⟩
theorem zK0 {l : Launch} {s0 : State} (h0 : St0 l s0) : va_K (zG s0) zcl (ztys s0) s0 := by
  obtain ⟨-, b0, ht, -⟩ := h0
  refine ⟨zG_ok ht, fun k q hk => ?_⟩
  obtain ⟨ty, hty, rfl⟩ := List.mem_map.mp (List.mem_of_getElem? hk)
  exact ztys_ok ht ty hty
/-- the place of an element type in the list -/
def zti (ty : FieldType) : Nat := match ty with
  | .int => 0
  | .long => 1
  | .double => 2
  | .char => 3
  | .byte => 4
  | _ => 5
def zA (s0 : State) : Nat → Prop := fun q => s0.heap.size ≤ q
def zE (s0 : State) (e : Rw) : va_E := match e with
  | .inl x => .inl (zAC s0 x.1, x.2)
  | .inr o => .inr o
def rAt (s0 : State) (q : Nat) (e : Rw) (H : Heap) : Prop := va_at (zG s0) zcl (q, zE s0 e) H
def zok0 (s0 : State) (g : Hp) (H : Heap) : Prop := s0.heap.size ≤ H.size ∧ (∀ q : Nat, q < s0.heap.size → H[q]? = s0.heap[q]?) ∧ ∃ r : Rh, (∀ q e, r q = some e → zA s0 q ∧ rAt s0 q e H) ∧ zsat r g
theorem rAt_kept {s0 : State} {q : Nat} {e : Rw} {H H1 : Heap} (h : rAt s0 q e H) (hq : H1[q]? = H[q]?) : rAt s0 q e H1 := va_at.kept h hq
theorem rAt_lt {s0 : State} {q : Nat} {e : Rw} {H : Heap} (h : rAt s0 q e H) : q < H.size := va_at.lt (q := (q, zE s0 e)) h
theorem zok0_raw {s0 : State} {g : Hp} {H : Heap} {a : Nat} {e : Rw} (h : zok0 s0 g H) (ha : g a = some (.inl e)) : zA s0 a ∧ rAt s0 a e H := by
  obtain ⟨-, -, r, h1, h2⟩ := h
  exact h1 a e (zsat_raw h2 ha)
theorem zok0_put {s0 : State} {g : Hp} {H H1 : Heap} {a : Nat} {e e' : Rw} (h : zok0 s0 g H) (ha : g a = some (.inl e)) (z : H1.size = H.size) (oq : ∀ q : Nat, q ≠ a → H1[q]? = H[q]?) (he : rAt s0 a e' H1) : zok0 s0 (zup g a (.inl e')) H1 := by
  have hA := (zok0_raw h ha).1
  obtain ⟨h1, h2, r, h3, h4⟩ := h
  refine ⟨by rw [z]; exact h1, fun q hq => ?_, rup r a e', fun q e0 hq => ?_, zsat_put h4 ha⟩
  · rw [oq q (fun x => by subst x; exact absurd hA (Nat.not_le.mpr hq))]
    exact h2 q hq
  · unfold rup at hq
    by_cases hqa : q = a
    · rw [if_pos hqa] at hq
      cases hq
      subst hqa
      exact ⟨hA, he⟩
    · rw [if_neg hqa] at hq
      exact ⟨(h3 q e0 hq).1, rAt_kept (h3 q e0 hq).2 (oq q hqa)⟩
theorem zok0_new {s0 : State} {g : Hp} {H H1 : Heap} {e : Rw} (h : zok0 s0 g H) (z : H1.size = H.size + 1) (oq : ∀ q : Nat, q < H.size → H1[q]? = H[q]?) (he : rAt s0 H.size e H1) : g H.size = none ∧ zok0 s0 (zup g H.size (.inl e)) H1 := by
  obtain ⟨h1, h2, r, h3, h4⟩ := h
  have hr : r H.size = none := by
    cases hx : r H.size with
    | none => rfl
    | some e0 => exact absurd (rAt_lt (h3 _ e0 hx).2) (Nat.lt_irrefl _)
  obtain ⟨h5, h6⟩ := zsat_new (e := e) h4 hr
  refine ⟨h5, by rw [z]; exact Nat.le_succ_of_le h1, fun q hq => (oq q (Nat.lt_of_lt_of_le hq h1)).trans (h2 q hq), rup r H.size e, fun q e0 hq => ?_, h6⟩
  unfold rup at hq
  by_cases hqa : q = H.size
  · rw [if_pos hqa] at hq
    cases hq
    subst hqa
    exact ⟨h1, he⟩
  · rw [if_neg hqa] at hq
    exact ⟨(h3 q e0 hq).1, rAt_kept (h3 q e0 hq).2 (oq q (rAt_lt (h3 q e0 hq).2))⟩
theorem zok0_open {s0 : State} {g : Hp} {H : Heap} {a : Nat} {kx : Nat} {pic : Hp → Nat → Prop} (h : zok0 s0 g H) (ha : g a = some (zbx kx pic)) : ∃ g2 : Hp, pic g2 a ∧ (∃ w, g2 a = some w) ∧ zdj g a g2 ∧ zok0 s0 (zov g a g2) H := by
  obtain ⟨h1, h2, r, h3, h4⟩ := h
  obtain ⟨g2, a1, a2, a3, a4⟩ := zopen h4 ha
  exact ⟨g2, a1, a2, a3, h1, h2, r, h3, a4⟩
theorem zok0_close {s0 : State} {g : Hp} {H : Heap} {a : Nat} {g2 : Hp} {w : AO} {kx : Nat} {pic : Hp → Nat → Prop} (h : zok0 s0 (zov g a g2) H) (hp : pic g2 a) (hw : g2 a = some w) (dj : zdj g a g2) : zok0 s0 (zup g a (zbx kx pic)) H := by
  obtain ⟨h1, h2, r, h3, h4⟩ := h
  exact ⟨h1, h2, r, h3, zclose h4 hp hw dj⟩
theorem zok0_less {s0 : State} {g g' : Hp} {H : Heap} (h : zok0 s0 g H) (hg : ∀ q v, g' q = some v → g q = some v) : zok0 s0 g' H := by
  obtain ⟨h1, h2, r, h3, h4⟩ := h
  exact ⟨h1, h2, r, h3, zsat_less h4 hg⟩
/-- the class of the cell at v's own address -/
theorem zok0_isK {s0 : State} {g : Hp} {H : Heap} {a ci : Nat} {v : AO} (h : zok0 s0 g H) (ha : g a = some v) (hk : zisK v ci) : ∃ fs, rAt s0 a (.inr (ci, fs)) H := by
  obtain ⟨-, -, r, h3, own, h4⟩ := h
  obtain ⟨fs, hf⟩ := hk a r _ (h4 a v ha)
  exact ⟨fs, (h3 a _ hf).2⟩
theorem zok0_ext {s0 : State} {g : Hp} {H H1 : Heap} (h : zok0 s0 g H) (z : H.size ≤ H1.size) (oq : ∀ q : Nat, q < H.size → H1[q]? = H[q]?) : zok0 s0 g H1 := by
  obtain ⟨h1, h2, r, h3, h4⟩ := h
  exact ⟨Nat.le_trans h1 z, fun q hq => (oq q (Nat.lt_of_lt_of_le hq h1)).trans (h2 q hq), r, fun q e0 hq => ⟨(h3 q e0 hq).1, rAt_kept (h3 q e0 hq).2 (oq q (rAt_lt (h3 q e0 hq).2))⟩, h4⟩
/-- the heap holds g, within the frames Φ -/
def zok (s0 : State) (Φ : Fr) (g : Hp) (H : Heap) : Prop := zfd Φ g ∧ zok0 s0 (zfr Φ g) H
theorem zok_lo {s0 : State} {Φ : Fr} {g : Hp} {H : Heap} (h : zok s0 Φ g H) : s0.heap.size ≤ H.size ∧ ∀ q : Nat, q < s0.heap.size → H[q]? = s0.heap[q]? := ⟨h.2.1, h.2.2.1⟩
theorem zok_raw {s0 : State} {Φ : Fr} {g : Hp} {H : Heap} {a : Nat} {e : Rw} (h : zok s0 Φ g H) (ha : g a = some (.inl e)) : zA s0 a ∧ rAt s0 a e H := zok0_raw h.2 (zfr_in Φ ha)
theorem zok_put {s0 : State} {Φ : Fr} {g : Hp} {H H1 : Heap} {a : Nat} {e e' : Rw} (h : zok s0 Φ g H) (ha : g a = some (.inl e)) (z : H1.size = H.size) (oq : ∀ q : Nat, q ≠ a → H1[q]? = H[q]?) (he : rAt s0 a e' H1) : zok s0 Φ (zup g a (.inl e')) H1 :=
  ⟨zfd_up Φ h.1 (Or.inl (by rw [ha]; exact fun z => by cases z)), by rw [← zfr_up]; exact zok0_put h.2 (zfr_in Φ ha) z oq he⟩
theorem zok_new {s0 : State} {Φ : Fr} {g : Hp} {H H1 : Heap} {e : Rw} (h : zok s0 Φ g H) (z : H1.size = H.size + 1) (oq : ∀ q : Nat, q < H.size → H1[q]? = H[q]?) (he : rAt s0 H.size e H1) : g H.size = none ∧ zok s0 Φ (zup g H.size (.inl e)) H1 := by
  obtain ⟨h1, h2⟩ := zok0_new h.2 z oq he
  exact ⟨zfr_none Φ h1, zfd_up Φ h.1 (Or.inr h1), by rw [← zfr_up]; exact h2⟩
theorem zok_open {s0 : State} {Φ : Fr} {g : Hp} {H : Heap} {a : Nat} {kx : Nat} {pic : Hp → Nat → Prop} (h : zok s0 Φ g H) (ha : g a = some (zbx kx pic)) : ∃ g2 : Hp, pic g2 a ∧ (∃ w, g2 a = some w) ∧ zdj g a g2 ∧ zok s0 Φ (zov g a g2) H := by
  obtain ⟨g2, h1, ⟨w, hw⟩, h3, h4⟩ := zok0_open h.2 (zfr_in Φ ha)
  have h2 : g2 a ≠ none := by rw [hw]; exact fun z => by cases z
  exact ⟨g2, h1, ⟨w, hw⟩, fun q hq hn => zfr_none Φ (h3 q hq hn), zfd_open Φ h.1 (by rw [ha]; exact fun z => by cases z) h2 h3, by rw [← zfr_ov Φ h2]; exact h4⟩
theorem zok_close {s0 : State} {Φ : Fr} {g : Hp} {H : Heap} {a : Nat} {g2 : Hp} {w : AO} {kx : Nat} {pic : Hp → Nat → Prop} (h : zok s0 Φ (zov g a g2) H) (hp : pic g2 a) (hw : g2 a = some w) (dj : zdj g a g2) : zok s0 Φ (zup g a (zbx kx pic)) H := by
  have h2 : g2 a ≠ none := by rw [hw]; exact fun z => by cases z
  refine ⟨zfd_dom Φ (fun q hn => ?_) h.1, ?_⟩
  · by_cases e : q = a
    · subst e
      rw [zov_in hw]
      exact fun z => by cases z
    · rw [zup_n _ _ e] at hn
      cases hx : g2 q with
      | some x => rw [zov_in hx]; exact fun z => by cases z
      | none => rw [zov_out hx e]; exact hn
  · rw [← zfr_up]
    refine zok0_close (by rw [zfr_ov Φ h2]; exact h.2) hp hw (fun q hq hn => ?_)
    refine zfr_out Φ h.1 ?_ (dj q hq hn)
    cases hx : g2 q with
    | none => exact absurd hx hn
    | some x => rw [zov_in hx]; exact fun z => by cases z
theorem zok_less {s0 : State} {Φ : Fr} {g g' : Hp} {H : Heap} (h : zok s0 Φ g H) (hg : ∀ q v, g' q = some v → g q = some v) : zok s0 Φ g' H :=
  ⟨zfd_dom Φ (fun q hn => by
    cases hx : g' q with
    | none => exact absurd hx hn
    | some x => rw [hg q x hx]; exact fun z => by cases z) h.1, zok0_less h.2 (zfr_less Φ hg h.1)⟩
/-- cells of the heap are taken together into a box -/
theorem zok_wrap {s0 : State} {Φ : Fr} {g : Hp} {H : Heap} (h : zok s0 Φ g H) {a : Nat} {g0 g2 : Hp} {w : AO} {kx : Nat} {pic : Hp → Nat → Prop} (hs : ∀ q v, zov g0 a g2 q = some v → g q = some v) (hp : pic g2 a) (hw : g2 a = some w) (dj : zdj g0 a g2) : zok s0 Φ (zup g0 a (zbx kx pic)) H := zok_close (zok_less h hs) hp hw dj
theorem zok_isK {s0 : State} {Φ : Fr} {g : Hp} {H : Heap} {a ci : Nat} {v : AO} (h : zok s0 Φ g H) (ha : g a = some v) (hk : zisK v ci) : ∃ fs, rAt s0 a (.inr (ci, fs)) H := zok0_isK h.2 (zfr_in Φ ha) hk
theorem zok_ext {s0 : State} {Φ : Fr} {g : Hp} {H H1 : Heap} (h : zok s0 Φ g H) (z : H.size ≤ H1.size) (oq : ∀ q : Nat, q < H.size → H1[q]? = H[q]?) : zok s0 Φ g H1 := ⟨h.1, zok0_ext h.2 z oq⟩
/-! locals: known values by place -/
def zL (lsA : Array Slot) (nL : Nat) (ls : List (Option Value)) : Prop := lsA.size = nL ∧ lv_wf lsA ∧ ∀ (i : Nat) (v : Value), ls[i]? = some (some v) → lsA[i]? = some (.val v)
def zsl (s : Slot) : Option Value := match s with
  | .val v => some v
  | _ => none
def zent (av : List Value) (nL : Nat) : List (Option Value) := (lg_sl av ++ List.replicate (nL - (lg_sl av).length) Slot.unset).map zsl
theorem zL_ent (av : List Value) {nL : Nat} (h : (lg_sl av).length ≤ nL) : zL ((lg_sl av ++ List.replicate (nL - (lg_sl av).length) Slot.unset).toArray) nL (zent av nL) := by
  have h1 := lv_entry av h
  refine ⟨h1.1, h1.2.1, fun i v hi => ?_⟩
  unfold zent at hi
  rw [List.getElem?_map] at hi
  cases hx : (lg_sl av ++ List.replicate (nL - (lg_sl av).length) Slot.unset)[i]? with
  | none => rw [hx] at hi; cases hi
  | some s =>
    rw [hx] at hi
    rw [List.getElem?_toArray, hx]
    cases s with
    | val w =>
      have : (some (zsl (.val w)) : Option (Option Value)) = some (some v) := hi
      cases this
      rfl
    | unset => cases hi
    | second => cases hi
/-- the listed locals, numbered -/
def zls (ls : List (Option Value)) : List (Nat × Value) := (List.range ls.length).filterMap (fun j => match ls[j]? with
  | some (some v) => some (j, v)
  | _ => none)
theorem zls_mem {ls : List (Option Value)} {j : Nat} {v : Value} : (j, v) ∈ zls ls ↔ ls[j]? = some (some v) := by
  unfold zls
  rw [List.mem_filterMap]
  constructor
  · rintro ⟨i, hi, h⟩
    cases hx : ls[i]? with
    | none => rw [hx] at h; cases h
    | some o =>
      cases o with
      | none => rw [hx] at h; cases h
      | some w => rw [hx] at h; cases h; exact hx
  · intro h
    have hl : j < ls.length := (List.getElem?_eq_some_iff.mp h).1
    exact ⟨j, List.mem_range.mpr hl, by rw [h]⟩
theorem zL_has {lsA : Array Slot} {nL : Nat} {ls : List (Option Value)} (h : zL lsA nL ls) : lv_has lsA nL (zls ls) := ⟨h.1, h.2.1, fun q hq => h.2.2 q.1 q.2 (zls_mem.mp (by cases q; exact hq))⟩
/-- no long or double stands just ahead of the place i -/
def zcat (ls : List (Option Value)) (i : Nat) : Prop := ∀ j v, j + 1 = i → ls[j]? = some (some v) → v.category = 1
theorem zcat_0 (ls : List (Option Value)) : zcat ls 0 := fun j v h => by cases h
theorem zcat_s {ls : List (Option Value)} {j : Nat} (h : (match ls[j]? with | some (some v) => decide (v.category = 1) | _ => true) = true) : zcat ls (j + 1) := by
  intro i v hi hv
  have : i = j := Nat.succ.inj hi
  subst this
  rw [hv] at h
  exact of_decide_eq_true h
theorem zL_set1 {lsA' : Array Slot} {nL : Nat} {ls : List (Option Value)} {i : Nat} {v : Value} (h : lv_has lsA' nL ((i, v) :: (zls ls).filter (fun q => !(q.1 == i) && !(q.1 + 1 == i && q.2.category == 2)))) (hc : zcat ls i) : zL lsA' nL (ls.set i (some v)) := by
  refine ⟨h.1, h.2.1, fun j w hj => ?_⟩
  by_cases hji : j = i
  · subst hji
    have hl : j < ls.length := by
      have := (List.getElem?_eq_some_iff.mp hj).1
      rwa [List.length_set] at this
    rw [List.getElem?_set_self hl] at hj
    cases hj
    exact h.2.2 _ List.mem_cons_self
  · rw [List.getElem?_set_ne (Ne.symm hji)] at hj
    refine h.2.2 (j, w) (List.mem_cons_of_mem _ (List.mem_filter.mpr ⟨zls_mem.mpr hj, ?_⟩))
    have h1 : (j == i) = false := beq_eq_false_iff_ne.mpr hji
    have h2 : (j + 1 == i && w.category == 2) = false := by
      by_cases h3 : j + 1 = i
      · have := hc j w h3 hj
        rw [this]
        simp
      · rw [beq_eq_false_iff_ne.mpr h3]
        rfl
    show (!(j == i) && !(j + 1 == i && w.category == 2)) = true
    rw [h1, h2]
    rfl
theorem zL_set2 {lsA' : Array Slot} {nL : Nat} {ls : List (Option Value)} {i : Nat} {v : Value} (h : lv_has lsA' nL ((i, v) :: (zls ls).filter (fun q => !(q.1 == i) && (!(q.1 == i + 1) && !(q.1 + 1 == i && q.2.category == 2))))) (hc : zcat ls i) : zL lsA' nL ((ls.set i (some v)).set (i + 1) none) := by
  refine ⟨h.1, h.2.1, fun j w hj => ?_⟩
  by_cases hj1 : j = i + 1
  · subst hj1
    have hl : i + 1 < (ls.set i (some v)).length := by
      have := (List.getElem?_eq_some_iff.mp hj).1
      rwa [List.length_set] at this
    rw [List.getElem?_set_self hl] at hj
    cases hj
  · rw [List.getElem?_set_ne (Ne.symm hj1)] at hj
    by_cases hji : j = i
    · subst hji
      have hl : j < ls.length := by
        have := (List.getElem?_eq_some_iff.mp hj).1
        rwa [List.length_set] at this
      rw [List.getElem?_set_self hl] at hj
      cases hj
      exact h.2.2 _ List.mem_cons_self
    · rw [List.getElem?_set_ne (Ne.symm hji)] at hj
      refine h.2.2 (j, w) (List.mem_cons_of_mem _ (List.mem_filter.mpr ⟨zls_mem.mpr hj, ?_⟩))
      have h1 : (j == i) = false := beq_eq_false_iff_ne.mpr hji
      have h0 : (j == i + 1) = false := beq_eq_false_iff_ne.mpr hj1
      have h2 : (j + 1 == i && w.category == 2) = false := by
        by_cases h3 : j + 1 = i
        · have := hc j w h3 hj
          rw [this]
          simp
        · rw [beq_eq_false_iff_ne.mpr h3]
          rfl
      show (!(j == i) && (!(j == i + 1) && !(j + 1 == i && w.category == 2))) = true
      rw [h1, h0, h2]
      rfl
/-! what holds while a method is walked -/
abbrev ZT : Type := Nat → List (Option Value) → List Value → Hp → Nat → Nat → Prop
abbrev ZX : Type := Nat → List (Option Value) → String → Hp → Nat → Nat → Prop
def zR (d mc ms : Nat) : Room := { frames := d, cells := mc, slots := ms, locals := 64 * d }
def zP (s0 : State) (Φ : Fr) (av : List Value) (g : Hp) : Array Value → State → Prop := fun a U => a = av.toArray ∧ s0.WarmedH U.vm ∧ zok s0 Φ g U.heap
def zQ (s0 : State) (Φ : Fr) (K : Res → Hp → Prop) : Array Value → State → Outcome → State → Prop := fun _ st o t => ∃ (v : Option Value) (g : Hp), o = .returned v ∧ K (.inl v) g ∧ zok s0 Φ g t.heap ∧ st.heap.size ≤ t.heap.size
def zXC (s0 : State) (Φ : Fr) (K : Res → Hp → Prop) : String → State → State → Prop := fun E st t => ∃ g : Hp, K (.inr E) g ∧ zok s0 Φ g t.heap ∧ st.heap.size ≤ t.heap.size
def Ctr (l : Launch) (s0 : State) (y : MethodName) (ws : List Cond) (d mc ms : Nat) (T : List Value → Hp → (Res → Hp → Prop) → Prop) : Prop :=
  ∀ {Φ : Fr} (av : List Value) (g : Hp) (K : Res → Hp → Prop), T av g K → vx_Met l y ws (zR d mc ms) (zP s0 Φ av g) (zQ s0 Φ K) (zXC s0 Φ K) mc ms (zA s0)
def zCtx (l : Launch) (s0 : State) (own nm : String) (cc : ByteArray) (nL : Nat) (ret : Option FieldType) (hh : List ExceptionTableEntry) (p : Program) (s : State) (m : MethodId) (args : Array Value) (meth : Method) (c : Code) : Prop :=
  p.tables.exec = Jvm.exec ∧ c.code = cc ∧ c.maxLocals = nL ∧ s.vm.findClass own = some m.cls ∧ (∀ w ∈ lw_all, w.before args s = true) ∧ meth.sig.returnType = ret ∧ meth.locks = false ∧ c.exceptionTable.toList = hh ∧ meth.name = nm ∧ s0.WarmedH s.vm ∧ (s0.heap.size ≤ s.heap.size ∧ ∀ q : Nat, q < s0.heap.size → s.heap[q]? = s0.heap[q]?) ∧ St0 l s0
def zJ (l : Launch) (s0 : State) (Φ : Fr) (p : Program) (e : Env) (R : Room) (s : State) (m : MethodId) (args : Array Value) (below : List Frame) (meth : Method) (c : Code) (Q : State → Prop) : ZT := fun pc ls st g k n =>
  ∀ (H : Heap) (locs : List Loc) (cells slots : Nat) (lsA : Array Slot), zL lsA c.maxLocals ls → zok s0 Φ g H → va_S (zA s0) s.heap H locs → cells + k ≤ R.cells → slots + n ≤ R.slots → W p l e R s m args below meth c H locs cells slots Q (F0 m pc lsA st)
def zJX (l : Launch) (s0 : State) (Φ : Fr) (p : Program) (e : Env) (R : Room) (s : State) (m : MethodId) (args : Array Value) (below : List Frame) (meth : Method) (c : Code) (Q : State → Prop) : ZX := fun pc ls E g k n =>
  ∀ (H : Heap) (locs : List Loc) (cells slots : Nat) (lsA : Array Slot) (rest : List Value) (q : Addr) (ce : Cell), zL lsA c.maxLocals ls → zok s0 Φ g H → va_S (zA s0) s.heap H locs → cells + k ≤ R.cells → slots + n ≤ R.slots → H[q]? = some ce → ce.vm = .none → s.vm.findClass E = some ce.cls → vx_W p l e R s m args below meth c H locs cells slots Q (F0 m pc lsA rest) q
def Good (l : Launch) (s0 : State) (own nm : String) (cc : ByteArray) (nL : Nat) (ret : Option FieldType) (hh : List ExceptionTableEntry) (d : Nat) (K : Res → Hp → Prop) (Z : ZT) (X : ZX) : Prop :=
  ∃ (Φ : Fr) (p : Program) (e : Env) (s : State) (m : MethodId) (args : Array Value) (below : List Frame) (meth : Method) (c : Code) (mc ms : Nat) (Q : State → Prop), zCtx l s0 own nm cc nL ret hh p s m args meth c ∧
    (∀ t, vx_MQ below (zQ s0 Φ K) (zXC s0 Φ K) args s mc ms (zA s0) t → Q t) ∧ Z = zJ l s0 Φ p e (zR d mc ms) s m args below meth c Q ∧ X = zJX l s0 Φ p e (zR d mc ms) s m args below meth c Q
theorem zWm {p : Program} {l : Launch} {e : Env} {R : Room} {s : State} {m : MethodId} {args : Array Value} {below : List Frame} {meth : Method} {c : Code} {H : Heap} {locs : List Loc} {cells slots : Nat} {Q Q' : State → Prop} {F : JFrame} (h : ∀ t, Q t → Q' t) (w : W p l e R s m args below meth c H locs cells slots Q F) : W p l e R s m args below meth c H locs cells slots Q' F := by
  intro T hT XX
  obtain ⟨t2, a1, b1⟩ := w T hT XX
  exact ⟨t2, a1, h _ b1⟩
theorem zXm {p : Program} {l : Launch} {e : Env} {R : Room} {s : State} {m : MethodId} {args : Array Value} {below : List Frame} {meth : Method} {c : Code} {H : Heap} {locs : List Loc} {cells slots : Nat} {Q Q' : State → Prop} {F : JFrame} {q : Addr} (h : ∀ t, Q t → Q' t) (w : vx_W p l e R s m args below meth c H locs cells slots Q F q) : vx_W p l e R s m args below meth c H locs cells slots Q' F q := by
  intro T hT XX
  obtain ⟨t2, a1, b1⟩ := w T hT XX
  exact ⟨t2, a1, h _ b1⟩
theorem ctr_body {l : Launch} {s0 : State} {y : MethodName} {ws' : List Cond} {w0 : Cond} {cc : ByteArray} {nL : Nat} {ret : Option FieldType} {d mc ms : Nat} {hh : List ExceptionTableEntry} {T : List Value → Hp → (Res → Hp → Prop) → Prop} (h0 : St0 l s0) (hlen : ∀ av g K, T av g K → (lg_sl av).length ≤ nL)
    (body : ∀ Z X av g K, Good l s0 y.cls y.name cc nL ret hh d K Z X → T av g K → Z 0 (zent av nL) [] g mc ms) {av : List Value} {g : Hp} {K : Res → Hp → Prop} (hT : T av g K) (hws : ws' = lw_all)
    {p : Program} {e : Env} {s : State} {m : MethodId} {args : Array Value} {below : List Frame} {meth : Method} {c : Code} {s₁ : State} (B : BodyLoose p l y (headSpec (w0 :: ws') (zR d mc ms)) cc nL ret e s m args below meth c s₁) (hml : c.maxLocals = nL) (htab : c.exceptionTable.toList = hh) {Φ : Fr} (hP : zP s0 Φ av g args s) :
    W p l e (headSpec (w0 :: ws') (zR d mc ms)).room s m args below meth c s.heap [] 0 0 (vx_MQ below (zQ s0 Φ K) (zXC s0 Φ K) args s mc ms (zA s0)) (entryFrame m args nL) := by
  subst hws
  obtain ⟨rfl, hW, hok⟩ := hP
  have hts := atoms_spec (ws := w0 :: lw_all) B.pre
  have hX : zCtx l s0 y.cls y.name cc nL ret hh p s m av.toArray meth c := ⟨B.exec, B.bytes, hml, findClass_of_methodNamed B.named, fun w h => hts w (List.mem_cons_of_mem _ h), B.returns, B.notSynchronized, htab, (name_of_methodNamed B.named B.method).1, hW, zok_lo hok, h0⟩
  have hb := body _ _ av g K ⟨Φ, p, e, s, m, av.toArray, below, meth, c, mc, ms, _, hX, fun _ h => h, rfl, rfl⟩ hT
  rw [lg_entry_eq]
  exact hb s.heap [] 0 0 _ (by rw [hml]; exact zL_ent av (hlen av g K hT)) hok va_S.rf (Nat.le_of_eq (Nat.zero_add _)) (Nat.le_of_eq (Nat.zero_add _))
/-- a method without handlers meets its contract if its walk does -/
theorem ctr_of {l : Launch} {s0 : State} {y : MethodName} {cc : ByteArray} {nL : Nat} {ret : Option FieldType} {d mc ms : Nat} {T : List Value → Hp → (Res → Hp → Prop) → Prop} (h0 : St0 l s0) (hy : plainName y.cls = true) (hlen : ∀ av g K, T av g K → (lg_sl av).length ≤ nL)
    (body : ∀ Z X av g K, Good l s0 y.cls y.name cc nL ret [] d K Z X → T av g K → Z 0 (zent av nL) [] g mc ms) : Ctr l s0 y (ws_ y cc nL ret) d mc ms T := by
  intro Φ av g K hT
  refine vx_ofW (cc := cc) (maxL := nL) (ret := ret) hy rfl fun p e s m args below meth c s₁ B hml ht hP => ?_
  refine ctr_body h0 hlen body hT rfl B hml ?_ hP
  cases hx : c.exceptionTable.toList with
  | nil => rfl
  | cons x xs => exact (ht x (by rw [hx]; exact List.mem_cons_self)).elim
/-- a method with handlers -/
theorem ctr_ofH {l : Launch} {s0 : State} {y : MethodName} {cc : ByteArray} {nL : Nat} {ret : Option FieldType} {hh : List (Nat × Nat × Nat × Nat)} {d mc ms : Nat} {T : List Value → Hp → (Res → Hp → Prop) → Prop} (h0 : St0 l s0) (hy : plainName y.cls = true) (hlen : ∀ av g K, T av g K → (lg_sl av).length ≤ nL)
    (body : ∀ Z X av g K, Good l s0 y.cls y.name cc nL ret (tableOf hh) d K Z X → T av g K → Z 0 (zent av nL) [] g mc ms) : Ctr l s0 y (wsW_ y cc nL ret hh) d mc ms T := by
  intro Φ av g K hT
  refine vx_ofWH (hh := hh) (cc := cc) (maxL := nL) (ret := ret) hy rfl fun p e s m args below meth c s₁ B hml hP => ?_
  exact ctr_body h0 hlen body hT rfl B hml (vx_table (x := y) B (atoms_spec (ws := wsW_ y cc nL ret hh) B.pre _ List.mem_cons_self)) hP
/-! a contract by a stronger one's transformer -/
theorem Ctr.mono {l : Launch} {s0 : State} {y : MethodName} {ws : List Cond} {d mc ms : Nat} {T T' : List Value → Hp → (Res → Hp → Prop) → Prop} (h : Ctr l s0 y ws d mc ms T) (ht : ∀ av g K, T' av g K → T av g K) : Ctr l s0 y ws d mc ms T' := by
  intro Φ av g K hT
  exact h av g K (ht av g K hT)
/-- a class of the list, with what its fields' rows need -/
def zCls (ci : Nat) (C : String) (T : u_T) (N : Nat) (ty : Nat → FieldType) : Prop := zcl[ci]? = some (C, T, N) ∧ (∀ w ∈ u_ws C T N, w ∈ lw_all) ∧ (∀ k, k < N → parseFieldDescriptor (T k).2.2.1 = some (ty k)) ∧ ∀ a, a < N → ∀ b, b < N → a ≠ b → (T a).2.1 ≠ (T b).2.1
theorem k_X1 : zCls 0 RX1 TX1 8 tyX1 := ⟨rfl, in_X1, tyX1_ok, nmX1⟩
theorem k_X2 : zCls 1 RX2 TX2 13 tyX2 := ⟨rfl, in_X2, tyX2_ok, nmX2⟩
theorem k_X3 : zCls 2 RX3 TX3 23 tyX3 := ⟨rfl, in_X3, tyX3_ok, nmX3⟩
theorem k_X4 : zCls 3 RX4 TX4 3 tyX4 := ⟨rfl, in_X4, tyX4_ok, nmX4⟩
theorem k_X5 : zCls 4 RX5 TX5 5 tyX5 := ⟨rfl, in_X5, tyX5_ok, nmX5⟩
theorem k_X6 : zCls 5 RX6 TX6 1 tyX6 := ⟨rfl, in_X6, tyX6_ok, nmX6⟩
theorem k_X7 : zCls 6 RX7 TX7 5 tyX7 := ⟨rfl, in_X7, tyX7_ok, nmX7⟩
theorem k_X8 : zCls 7 RX8 TX8 3 tyX8 := ⟨rfl, in_X8, tyX8_ok, nmX8⟩
theorem k_J2 : zCls 8 RJ2 TJ2 3 tyJ2 := ⟨rfl, in_J2, tyJ2_ok, nmJ2⟩
theorem k_J4 : zCls 9 RJ4 TJ4 4 tyJ4 := ⟨rfl, in_J4, tyJ4_ok, nmJ4⟩
theorem k_J5 : zCls 10 RJ5 TJ5 3 tyJ5 := ⟨rfl, in_J5, tyJ5_ok, nmJ5⟩
theorem k_J6 : zCls 11 RJ6 TJ6 3 tyJ6 := ⟨rfl, in_J6, tyJ6_ok, nmJ6⟩
theorem k_J8 : zCls 12 RJ8 TJ8 4 tyJ8 := ⟨rfl, in_J8, tyJ8_ok, nmJ8⟩
theorem k_J9 : zCls 13 RJ9 TJ9 4 tyJ9 := ⟨rfl, in_J9, tyJ9_ok, nmJ9⟩
theorem k_J15 : zCls 14 RJ15 TJ15 4 tyJ15 := ⟨rfl, in_J15, tyJ15_ok, nmJ15⟩
theorem k_J29 : zCls 15 RJ29 TJ29 5 tyJ29 := ⟨rfl, in_J29, tyJ29_ok, nmJ29⟩
theorem k_J30 : zCls 16 RJ30 TJ30 3 tyJ30 := ⟨rfl, in_J30, tyJ30_ok, nmJ30⟩
theorem k_J31 : zCls 17 RJ31 TJ31 4 tyJ31 := ⟨rfl, in_J31, tyJ31_ok, nmJ31⟩
theorem k_J42 : zCls 18 RJ42 TJ42 2 tyJ42 := ⟨rfl, in_J42, tyJ42_ok, nmJ42⟩
