/-! WHAT STANDS AT THE START: objects, their fields, arrays, that nobody changes -/
def zO (s0 : State) (C : String) (a : Nat) : Prop := va_O C a (zA s0) s0 s0.heap
def zOF (s0 : State) (o nf d : String) (v : Value) (a : Nat) : Prop := va_OF o nf d v a (zA s0) s0 s0.heap
def zTS (s0 : State) (ty : FieldType) (t N : Nat) (f : Nat → Value) : Prop := va_T ty t N f (zA s0) s0 s0.heap
theorem zhas_O {l : Launch} {s0 : State} {g : Hp} {C : String} {a : Nat} (h : zO s0 C a) : zhas l s0 g a C := by
  intro s H Φ hW h0 hg
  obtain ⟨cell, h1, h2, h3, -⟩ := va_O.moved hW.alike (va_O.kept h (H1 := H) (fun a ha _ => (zok_lo hg).2 a ha))
  exact ⟨cell, h1, h2, h3⟩
theorem zno_A {s0 : State} : ∀ a : Nat, a < s0.heap.size → ¬ zA s0 a := fun _ ha hA => absurd hA (Nat.not_le.mpr ha)
section
variable {l : Launch} {s0 : State} {own nm : String} {cc : ByteArray} {nL : Nat} {ret : Option FieldType} {hh : List ExceptionTableEntry} {dp : Nat} {K : Res → Hp → Prop} {Z : ZT} {X : ZX} {pc q : Nat} {ls : List (Option Value)} {rest st : List Value} {g : Hp} {k n a : Nat}
theorem z_getO (G : Good l s0 own nm cc nL ret hh dp K Z X) {o nf d : String} {v : Value} {idx t : Nat} (hE : zOF s0 o nf d v t) (hdg : decode cc pc = .ok (.getfield idx, 3)) (hq : pc + 3 = q) (hlink : Cond.fieldLink own idx o nf d ∈ lw_all) (kk : Z q ls (v :: rest) g k n) : Z pc ls (.ref t :: rest) g k n := by
  subst hq
  obtain ⟨Φ, p, e, s, m, args, below, meth, c, mc, ms, Q, hX, hMQ, rfl, rfl⟩ := G
  intro H locs cells slots lsA hl0 hg hS hc hs
  obtain ⟨hx, hb, hml, hown, hts, hret, hlk, htab, hnm0, hW, hlow, h0⟩ := hX
  exact vk_getf hx hb (va_OF.moved hW.alike (va_OF.kept hE (H1 := s.heap) (fun a ha _ => hlow.2 a ha))) hS hown (hts _ hlink) (fun _ h => h) hdg (kk H locs cells slots lsA hl0 hg hS hc hs)
theorem z_aldS (G : Good l s0 own nm cc nL ret hh dp K Z X) {C : String} {t N : Nat} {f : Nat → Value} {i : Int32} (hT : zTS s0 (.object C) t N f) (hdg : decode cc pc = .ok (.aaload, 1)) (hq : pc + 1 = q) (hin : vp_in i N) (kk : Z q ls (f i.toNatClampNeg :: rest) g k n) : Z pc ls (.int i :: .ref t :: rest) g k n := by
  subst hq
  obtain ⟨Φ, p, e, s, m, args, below, meth, c, mc, ms, Q, hX, hMQ, rfl, rfl⟩ := G
  intro H locs cells slots lsA hl0 hg hS hc hs
  obtain ⟨hx, hb, hml, hown, hts, hret, hlk, htab, hnm0, hW, hlow, h0⟩ := hX
  exact vb_tq hx hb (va_T.moved hW.alike (va_T.kept hT (H1 := s.heap) (fun a ha _ => hlow.2 a ha))) hS hin rfl hdg (kk H locs cells slots lsA hl0 hg hS hc hs)
theorem z_bldS (G : Good l s0 own nm cc nL ret hh dp K Z X) {t N : Nat} {f : Nat → Value} {i : Int32} (hT : zTS s0 .byte t N f) (hdg : decode cc pc = .ok (.baload, 1)) (hq : pc + 1 = q) (hin : vp_in i N) (kk : Z q ls (f i.toNatClampNeg :: rest) g k n) : Z pc ls (.int i :: .ref t :: rest) g k n := by
  subst hq
  obtain ⟨Φ, p, e, s, m, args, below, meth, c, mc, ms, Q, hX, hMQ, rfl, rfl⟩ := G
  intro H locs cells slots lsA hl0 hg hS hc hs
  obtain ⟨hx, hb, hml, hown, hts, hret, hlk, htab, hnm0, hW, hlow, h0⟩ := hX
  exact va_tb hx hb (va_T.moved hW.alike (va_T.kept hT (H1 := s.heap) (fun a ha _ => hlow.2 a ha))) hS hin rfl hdg (kk H locs cells slots lsA hl0 hg hS hc hs)
theorem z_lenS (G : Good l s0 own nm cc nL ret hh dp K Z X) {ty : FieldType} {t N : Nat} {f : Nat → Value} (hT : zTS s0 ty t N f) (hdg : decode cc pc = .ok (.arraylength, 1)) (hq : pc + 1 = q) (kk : Z q ls (.int (nI N) :: rest) g k n) : Z pc ls (.ref t :: rest) g k n := by
  subst hq
  obtain ⟨Φ, p, e, s, m, args, below, meth, c, mc, ms, Q, hX, hMQ, rfl, rfl⟩ := G
  intro H locs cells slots lsA hl0 hg hS hc hs
  obtain ⟨hx, hb, hml, hown, hts, hret, hlk, htab, hnm0, hW, hlow, h0⟩ := hX
  exact va_tlen hx hb (va_T.moved hW.alike (va_T.kept hT (H1 := s.heap) (fun a ha _ => hlow.2 a ha))) hS rfl hdg (kk H locs cells slots lsA hl0 hg hS hc hs)
end
/-- what 'all' says of an array of boxed numbers -/
theorem zall {args : Array Value} {s : State} {A : Nat → Prop} {st tv : Term} {C fd : String} {N : Nat} {v : Nat → Int32} (hc : st.closed = true) (hN : N < 2 ^ 31) (hlen : (Term.length st).eval args s none [] s = some (.int (Int32.ofNat N)))
    (hall : (Cond.all st (.and (.exactly (.elem st (.index 0)) C) (.eq (.field (.elem st (.index 0)) C "value" fd) tv))).before args s = true) (htv : ∀ k, k < N → tv.eval args s none [k] s = some (.int (v k))) (hA : ∀ a : Nat, a < s.heap.size → ¬ A a) :
    ∃ ad : Nat → Nat, ∀ k, k < N → va_O C (ad k) A s s.heap ∧ va_OF C "value" fd (.int (v k)) (ad k) A s s.heap ∧ (Term.elem st (.int (Int32.ofNat k))).eval args s none [] s = some (.ref (ad k)) := by
  obtain ⟨b, cell, ht, hat, hv⟩ := Term.length_spec hlen
  have hz : ∀ k, k < N → k < cell.slots.size := fun k hk => Nat.not_le.mp fun hle => by
    have e : Int32.ofNat cell.slots.size = Int32.ofNat N := (Value.int.inj hv).symm
    have h1 : (Int32.ofNat cell.slots.size).toNatClampNeg = cell.slots.size := Int32.toNatClampNeg_ofNat_of_lt (by omega)
    rw [e, Int32.toNatClampNeg_ofNat_of_lt hN] at h1
    omega
  have hel := Cond.all_elim ht hat (by simpa [Cond.before, Cond.holds] using hall)
  have one : ∀ k, ∃ a : Nat, k < N → va_O C a A s s.heap ∧ va_OF C "value" fd (.int (v k)) a A s s.heap ∧ (Term.elem st (.int (Int32.ofNat k))).eval args s none [] s = some (.ref a) := by
    intro k
    by_cases hk : k < N
    · obtain ⟨h1, h2⟩ := va_andE (hel k (hz k hk))
      obtain ⟨a, _, cA, _, q1, q2, q3, -, q5, q6, -⟩ := Cond.exactly_spec (args := args) (first := s) (o := none) (s := s) (idx := [k]) (t := .elem st (.index 0)) (cls := C) (by simp [Cond.holds, h1])
      have hf := va_eqI h2 (htv k hk)
      refine ⟨a, fun _ => ⟨⟨cA, q3, q5, by rw [q6]; exact q2, hA a (Array.getElem?_eq_some_iff.mp q3).1⟩, ?_, ?_⟩⟩
      · cases hfo : s.fieldFound? C "value" fd with
        | none =>
          rw [va_fe q1] at hf
          simp [State.fieldOf?, State.fieldNamed?, hfo] at hf
        | some x =>
          obtain ⟨cf, kf, fi, f⟩ := x
          obtain ⟨g1, c2, g2, g3, -, -, g6⟩ := Term.field_spec hfo q1 hf
          exact ⟨cf, kf, fi, f, c2, hfo, g1, g2, g3, g6, hA _ (Array.getElem?_eq_some_iff.mp g2).1⟩
      · rw [← q1]
        simp only [Term.eval, Term.eval_closed none [k] st s hc]
        rfl
    · exact ⟨0, fun h => absurd h hk⟩
  obtain ⟨ad, had⟩ := Classical.axiomOfChoice one
  exact ⟨ad, had⟩
/-- the caches of boxed numbers, and what a static array holds -/
theorem zcache {l : Launch} {s0 : State} (h0 : St0 l s0) {SC nf d C fd : String} {tv : Term} {N : Nat} {v : Nat → Int32} (p1 p2 p3 : List Bool) (hN : N < 2 ^ 31) (hl : Cond.laysStatic SC nf d ∈ lw_tbl) (hi : Cond.initialized SC ∈ lw_all)
    (w1 : zget p1 (Jvm.Cond.and given_1 narrow_1) = some (.arrayOf (.static SC nf d) (.object C))) (w2 : zget p2 (Jvm.Cond.and given_1 narrow_1) = some (.eq (.length (.static SC nf d)) (.int (Int32.ofNat N))))
    (w3 : zget p3 (Jvm.Cond.and given_1 narrow_1) = some (.all (.static SC nf d) (.and (.exactly (.elem (.static SC nf d) (.index 0)) C) (.eq (.field (.elem (.static SC nf d) (.index 0)) C "value" fd) tv)))) (htv : ∀ (A : Array Value) k, k < N → tv.eval A s0 none [k] s0 = some (.int (v k))) :
    ∃ (t : Nat) (ad : Nat → Nat), zSt s0 SC nf d (.ref t) ∧ zTS s0 (.object C) t N (fun j => .ref (ad j)) ∧ ∀ k, k < N → zO s0 C (ad k) ∧ zOF s0 C "value" fd (.int (v k)) (ad k) := by
  obtain ⟨-, b0, ht, hn⟩ := h0
  have hlen : (Term.length (.static SC nf d)).eval #[Value.ref b0] s0 none [] s0 = some (.int (Int32.ofNat N)) := va_eqI (first := s0) (by simpa [Cond.before, Cond.holds] using zget_ok p2 w2 hn) rfl
  obtain ⟨ad, had⟩ := zall rfl hN hlen (zget_ok p3 w3 hn) (htv _) (zno_A (s0 := s0))
  obtain ⟨t, h1, h2⟩ := va_Tof hN (zget_ok p1 w1 hn) hlen (fun j hj => (had j hj).2.2) (zno_A (s0 := s0))
  exact ⟨t, ad, va_Zref (ht _ hl) (ht _ (lw_all_tbl hi)) h1 (zno_A (s0 := s0)), h2, fun k hk => ⟨(had k hk).1, (had k hk).2.1⟩⟩
theorem zIC {l : Launch} {s0 : State} (h0 : St0 l s0) : ∃ (t : Nat) (ad : Nat → Nat), zSt s0 "java/lang/Integer$IntegerCache" "cache" "[Ljava/lang/Integer;" (.ref t) ∧ zTS s0 (.object "java/lang/Integer") t 256 (fun j => .ref (ad j)) ∧ ∀ k, k < 256 → zO s0 "java/lang/Integer" (ad k) ∧ zOF s0 "java/lang/Integer" "value" "I" (.int (Int32.ofNat k - 128)) (ad k) :=
  zcache h0 [true, false, true, false, false, false, true, true, true, true, true] [true, false, true, false, false, true, false, false, false, false] [true, false, true, false, false, true, false, false, false, true, false] (by decide) q1680 q157 rfl rfl rfl (fun A k _ => by simp [Term.eval])
theorem zCC {l : Launch} {s0 : State} (h0 : St0 l s0) : ∃ (t : Nat) (ad : Nat → Nat), zSt s0 "java/lang/Character$CharacterCache" "cache" "[Ljava/lang/Character;" (.ref t) ∧ zTS s0 (.object "java/lang/Character") t 128 (fun j => .ref (ad j)) ∧ ∀ k, k < 128 → zO s0 "java/lang/Character" (ad k) ∧ zOF s0 "java/lang/Character" "value" "C" (.int (Int32.ofNat k + 0)) (ad k) :=
  zcache h0 [true, false, true, false, false, true, false, false, true, false] [true, false, true, false, false, true, false, false, true, true, false] [true, false, true, false, false, true, false, false, true, true, true] (by decide) q2192 q164 rfl rfl rfl (fun A k _ => by simp [Term.eval])
