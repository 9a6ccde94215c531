/-! CALLS, and what is thrown -/
def zk (Z : ZT) (X : ZX) (pc q : Nat) (ls : List (Option Value)) (rest : List Value) (k n : Nat) : Res → Hp → Prop := fun r g => match r with
  | .inl (some v) => Z q ls (v :: rest) g k n
  | .inl none => Z q ls rest g k n
  | .inr E => X pc ls E g k n
def zMS (y : MethodName) (b : ByteArray) (L : Nat) (r : Option FieldType) (np : Nat) : Prop := Cond.static y ∈ lw_all ∧ Cond.initialized y.cls ∈ lw_all ∧ Cond.code y b L r ∈ lw_all ∧ (y.cls ≠ "java/lang/invoke/MethodHandle" ∧ y.cls ≠ "java/lang/invoke/VarHandle" ∧ (parseMethodDescriptor y.desc).map (fun d => d.parameters.length) = some np) ∧ L ≤ 45
def zMV (y : MethodName) (b : ByteArray) (L : Nat) (r : Option FieldType) (np : Nat) : Prop := Cond.instanceMethod y ∈ lw_all ∧ Cond.selects y.cls y y ∈ lw_all ∧ Cond.initialized y.cls ∈ lw_all ∧ Cond.code y b L r ∈ lw_all ∧ (y.cls ≠ "java/lang/invoke/MethodHandle" ∧ y.cls ≠ "java/lang/invoke/VarHandle" ∧ (parseMethodDescriptor y.desc).map (fun d => d.parameters.length) = some np) ∧ L ≤ 45
def zMI (y : MethodName) (b : ByteArray) (L : Nat) (np : Nat) : Prop := Cond.instanceMethod y ∈ lw_all ∧ Cond.initialized y.cls ∈ lw_all ∧ Cond.code y b L none ∈ lw_all ∧ y.name = "<init>" ∧ (y.cls ≠ "java/lang/invoke/MethodHandle" ∧ y.cls ≠ "java/lang/invoke/VarHandle" ∧ (parseMethodDescriptor y.desc).map (fun d => d.parameters.length) = some np) ∧ L ≤ 45
def zMSW (y : MethodName) (b : ByteArray) (L : Nat) (r : Option FieldType) (hh : List (Nat × Nat × Nat × Nat)) (np : Nat) : Prop := Cond.static y ∈ lw_all ∧ Cond.initialized y.cls ∈ lw_all ∧ Cond.codeWith y b L r hh ∈ lw_all ∧ (y.cls ≠ "java/lang/invoke/MethodHandle" ∧ y.cls ≠ "java/lang/invoke/VarHandle" ∧ (parseMethodDescriptor y.desc).map (fun d => d.parameters.length) = some np) ∧ L ≤ 45
def zMVW (y : MethodName) (b : ByteArray) (L : Nat) (r : Option FieldType) (hh : List (Nat × Nat × Nat × Nat)) (np : Nat) : Prop := Cond.instanceMethod y ∈ lw_all ∧ Cond.selects y.cls y y ∈ lw_all ∧ Cond.initialized y.cls ∈ lw_all ∧ Cond.codeWith y b L r hh ∈ lw_all ∧ (y.cls ≠ "java/lang/invoke/MethodHandle" ∧ y.cls ≠ "java/lang/invoke/VarHandle" ∧ (parseMethodDescriptor y.desc).map (fun d => d.parameters.length) = some np) ∧ L ≤ 45
theorem zroom {d dp mc ms mc' ms' L : Nat} (hd : d + 1 ≤ dp) (hL : L ≤ 45) : (zR d mc' ms').frames + 1 ≤ (zR dp mc ms).frames ∧ 8 + (L + 11) + (zR d mc' ms').locals ≤ (zR dp mc ms).locals := by
  refine ⟨hd, ?_⟩
  show 8 + (L + 11) + 64 * d ≤ 64 * dp
  omega
section
variable {l : Launch} {s0 : State} {own nm : String} {cc : ByteArray} {nL : Nat} {ret : Option FieldType} {hh : List ExceptionTableEntry} {dp : Nat} {K : Res → Hp → Prop} {Z : ZT} {X : ZX} {pc q : Nat} {ls : List (Option Value)} {rest st : List Value} {g : Hp} {k n a : Nat}
theorem zblind {Φ : Fr} {av : List Value} : FrameBlind (zP s0 Φ av g) := fun _ _ _ _ h => h
theorem zpre {Φ : Fr} {p : Program} {s : State} {m : MethodId} {args : Array Value} {meth : Method} {c : Code} {H : Heap} {av : List Value} (hX : zCtx l s0 own nm cc nL ret hh p s m args meth c) (hg : zok s0 Φ g H) : PreS s H (zP s0 Φ av g) av := by
  refine ⟨zblind, fun U hU hW => ⟨rfl, ?_, by rw [hU]; exact hg⟩⟩
  obtain ⟨hx, hb, hml, hown, hts, hret, hlk, htab, hnm0, hW0, hlow, h0⟩ := hX
  exact State.WarmedH.trans hW0 hW
theorem zrun {Φ : Fr} {p : Program} {e : Env} {R : Room} {s : State} {m : MethodId} {args : Array Value} {below : List Frame} {meth : Method} {c : Code} {Q : State → Prop} {H : Heap} {locs : List Loc} {cells slots mc ms : Nat} {lsA : Array Slot} {a : Array Value}
    (hr : vx_Run p l e R s m args below meth c H locs cells slots mc ms (F0 m pc lsA st) rest (zQ s0 Φ (zk (zJ l s0 Φ p e R s m args below meth c Q) (zJX l s0 Φ p e R s m args below meth c Q) pc (pc + 3) ls rest (k - mc) (n - ms)) a) (zXC s0 Φ (zk (zJ l s0 Φ p e R s m args below meth c Q) (zJX l s0 Φ p e R s m args below meth c Q) pc (pc + 3) ls rest (k - mc) (n - ms))) (zA s0))
    (hl0 : zL lsA c.maxLocals ls) (hg : zok s0 Φ g H) (hlow : s0.heap.size ≤ s.heap.size ∧ ∀ q : Nat, q < s0.heap.size → s.heap[q]? = s0.heap[q]?) (hS : va_S (zA s0) s.heap H locs) (hc : cells + k ≤ R.cells) (hs : slots + n ≤ R.slots) (hk : mc ≤ k) (hn : ms ≤ n) : W p l e R s m args below meth c H locs cells slots Q (F0 m pc lsA st) := by
  intro T hT XX
  rcases hr T hT XX with ⟨v, st₀, t, T', L, h0, X', hL, e1, e2, ⟨v', g', hv, hK, hok, hz⟩, sg⟩ | ⟨q, st₀, t, T', L, E, ce, h0, X', hL, e1, e2, ⟨g', hK, hok, hz⟩, hce, hcv, hcl, sg⟩
  · cases hv
    rw [h0] at hz
    have hok' : zok s0 Φ g' T'.heap := by rw [e1]; exact hok
    have hS' : va_S (zA s0) s.heap T'.heap (locs ++ L) := by
      refine ⟨Nat.le_trans hS.1 (by rw [e1]; exact hz), fun x h1 h2 => ?_, fun x hx => ?_⟩
      · have hx0 : x < s0.heap.size := Nat.not_le.mp h2
        exact ((zok_lo hok').2 x hx0).trans (hlow.2 x hx0).symm
      · rcases List.mem_append.mp hx with h | h
        · exact hS.2.2 x h
        · exact hL x h
    cases v with
    | none =>
      obtain ⟨t2, a1, b1⟩ := hK T'.heap (locs ++ L) (cells + mc) (slots + ms) lsA hl0 hok' hS' (by omega) (by omega) T' rfl X'
      exact ⟨t2, sg t2 a1, b1⟩
    | some v =>
      obtain ⟨t2, a1, b1⟩ := hK T'.heap (locs ++ L) (cells + mc) (slots + ms) lsA hl0 hok' hS' (by omega) (by omega) T' rfl X'
      exact ⟨t2, sg t2 a1, b1⟩
  · rw [h0] at hz
    have hok' : zok s0 Φ g' T'.heap := by rw [e1]; exact hok
    have hS' : va_S (zA s0) s.heap T'.heap (locs ++ L) := by
      refine ⟨Nat.le_trans hS.1 (by rw [e1]; exact hz), fun x h1 h2 => ?_, fun x hx => ?_⟩
      · have hx0 : x < s0.heap.size := Nat.not_le.mp h2
        exact ((zok_lo hok').2 x hx0).trans (hlow.2 x hx0).symm
      · rcases List.mem_append.mp hx with h | h
        · exact hS.2.2 x h
        · exact hL x h
    obtain ⟨t2, a1, b1⟩ := hK T'.heap (locs ++ L) (cells + mc) (slots + ms) lsA rest q ce hl0 hok' hS' (by omega) (by omega) (by rw [e1]; exact hce) hcv hcl T' rfl X'
    exact ⟨t2, sg.trans a1, b1⟩
theorem zrun5 {Φ : Fr} {p : Program} {e : Env} {R : Room} {s : State} {m : MethodId} {args : Array Value} {below : List Frame} {meth : Method} {c : Code} {Q : State → Prop} {H : Heap} {locs : List Loc} {cells slots mc ms : Nat} {lsA : Array Slot} {a : Array Value}
    (hr : vx_Run5 p l e R s m args below meth c H locs cells slots mc ms (F0 m pc lsA st) rest (zQ s0 Φ (zk (zJ l s0 Φ p e R s m args below meth c Q) (zJX l s0 Φ p e R s m args below meth c Q) pc (pc + 5) ls rest (k - mc) (n - ms)) a) (zXC s0 Φ (zk (zJ l s0 Φ p e R s m args below meth c Q) (zJX l s0 Φ p e R s m args below meth c Q) pc (pc + 5) ls rest (k - mc) (n - ms))) (zA s0))
    (hl0 : zL lsA c.maxLocals ls) (hg : zok s0 Φ g H) (hlow : s0.heap.size ≤ s.heap.size ∧ ∀ q : Nat, q < s0.heap.size → s.heap[q]? = s0.heap[q]?) (hS : va_S (zA s0) s.heap H locs) (hc : cells + k ≤ R.cells) (hs : slots + n ≤ R.slots) (hk : mc ≤ k) (hn : ms ≤ n) : W p l e R s m args below meth c H locs cells slots Q (F0 m pc lsA st) := by
  intro T hT XX
  rcases hr T hT XX with ⟨v, st₀, t, T', L, h0, X', hL, e1, e2, ⟨v', g', hv, hK, hok, hz⟩, sg⟩ | ⟨q, st₀, t, T', L, E, ce, h0, X', hL, e1, e2, ⟨g', hK, hok, hz⟩, hce, hcv, hcl, sg⟩
  · cases hv
    rw [h0] at hz
    have hok' : zok s0 Φ g' T'.heap := by rw [e1]; exact hok
    have hS' : va_S (zA s0) s.heap T'.heap (locs ++ L) := by
      refine ⟨Nat.le_trans hS.1 (by rw [e1]; exact hz), fun x h1 h2 => ?_, fun x hx => ?_⟩
      · have hx0 : x < s0.heap.size := Nat.not_le.mp h2
        exact ((zok_lo hok').2 x hx0).trans (hlow.2 x hx0).symm
      · rcases List.mem_append.mp hx with h | h
        · exact hS.2.2 x h
        · exact hL x h
    cases v with
    | none =>
      obtain ⟨t2, a1, b1⟩ := hK T'.heap (locs ++ L) (cells + mc) (slots + ms) lsA hl0 hok' hS' (by omega) (by omega) T' rfl X'
      exact ⟨t2, sg t2 a1, b1⟩
    | some v =>
      obtain ⟨t2, a1, b1⟩ := hK T'.heap (locs ++ L) (cells + mc) (slots + ms) lsA hl0 hok' hS' (by omega) (by omega) T' rfl X'
      exact ⟨t2, sg t2 a1, b1⟩
  · rw [h0] at hz
    have hok' : zok s0 Φ g' T'.heap := by rw [e1]; exact hok
    have hS' : va_S (zA s0) s.heap T'.heap (locs ++ L) := by
      refine ⟨Nat.le_trans hS.1 (by rw [e1]; exact hz), fun x h1 h2 => ?_, fun x hx => ?_⟩
      · have hx0 : x < s0.heap.size := Nat.not_le.mp h2
        exact ((zok_lo hok').2 x hx0).trans (hlow.2 x hx0).symm
      · rcases List.mem_append.mp hx with h | h
        · exact hS.2.2 x h
        · exact hL x h
    obtain ⟨t2, a1, b1⟩ := hK T'.heap (locs ++ L) (cells + mc) (slots + ms) lsA rest q ce hl0 hok' hS' (by omega) (by omega) (by rw [e1]; exact hce) hcv hcl T' rfl X'
    exact ⟨t2, sg.trans a1, b1⟩
variable {y : MethodName} {b : ByteArray} {L np d mc ms idx : Nat} {r : Option FieldType} {T : List Value → Hp → (Res → Hp → Prop) → Prop} {As : List Value} {v : Nat} {hw : List (Nat × Nat × Nat × Nat)}
theorem z_S (G : Good l s0 own nm cc nL ret hh dp K Z X) (hdg : decode cc pc = .ok (.invokestatic idx, 3)) (hq : pc + 3 = q) (hM : zMS y b L r np) (h1 : Cond.methodLink own idx y ∈ lw_all) (hC : Ctr l s0 y (ws_ y b L r) d mc ms T) (hd : d + 1 ≤ dp) (hst : st = As.reverse ++ rest) (hlen : As.length = np) (hr : (rest.map fun v => v.category).sum ≤ 8) (hk : mc ≤ k) (hn : ms ≤ n)
    (hT : T As g (zk Z X pc q ls rest (k - mc) (n - ms))) : Z pc ls st g k n := by
  subst hq
  obtain ⟨Φ, p, e, s, m, args, below, meth, c, mc0, ms0, Q, hX, hMQ, rfl, rfl⟩ := G
  intro H locs cells slots lsA hl0 hg hS hc1 hs
  obtain ⟨hx, hb, hml, hown, hts, hret, hlk, htab, hnm0, hW, hlow, h0⟩ := id hX
  obtain ⟨m1, m2, m3, m4, m5⟩ := hM
  exact zrun (vx_runS (As := As) (rest := rest) ⟨hx, hb, hml, hown, hts⟩ (hC As g _ hT) (va_cwS np hts (lw_S h1 m1 m2 m3) rfl rfl rfl m4 (zroom hd m5)) (zpre hX hg) rfl hlen (hl0.1.trans hml) hst (lv_room hr) hdg ⟨by show cells + mc ≤ mc0; exact Nat.le_trans (Nat.add_le_add_left hk _) hc1, by show slots + ms ≤ ms0; exact Nat.le_trans (Nat.add_le_add_left hn _) hs⟩) hl0 hg hlow hS hc1 hs hk hn
theorem z_SW (G : Good l s0 own nm cc nL ret hh dp K Z X) (hdg : decode cc pc = .ok (.invokestatic idx, 3)) (hq : pc + 3 = q) (hM : zMSW y b L r hw np) (h1 : Cond.methodLink own idx y ∈ lw_all) (hC : Ctr l s0 y (wsW_ y b L r hw) d mc ms T) (hd : d + 1 ≤ dp) (hst : st = As.reverse ++ rest) (hlen : As.length = np) (hr : (rest.map fun v => v.category).sum ≤ 8) (hk : mc ≤ k) (hn : ms ≤ n)
    (hT : T As g (zk Z X pc q ls rest (k - mc) (n - ms))) : Z pc ls st g k n := by
  subst hq
  obtain ⟨Φ, p, e, s, m, args, below, meth, c, mc0, ms0, Q, hX, hMQ, rfl, rfl⟩ := G
  intro H locs cells slots lsA hl0 hg hS hc1 hs
  obtain ⟨hx, hb, hml, hown, hts, hret, hlk, htab, hnm0, hW, hlow, h0⟩ := id hX
  obtain ⟨m1, m2, m3, m4, m5⟩ := hM
  exact zrun (vx_runSX (As := As) (rest := rest) ⟨hx, hb, hml, hown, hts⟩ (hC As g _ hT) (vx_cwSW np hts (lw_SW h1 m1 m2 m3) rfl rfl rfl m4 (zroom hd m5)) (zpre hX hg) rfl hlen (hl0.1.trans hml) hst (lv_room hr) hdg ⟨by show cells + mc ≤ mc0; exact Nat.le_trans (Nat.add_le_add_left hk _) hc1, by show slots + ms ≤ ms0; exact Nat.le_trans (Nat.add_le_add_left hn _) hs⟩) hl0 hg hlow hS hc1 hs hk hn
theorem z_V (G : Good l s0 own nm cc nL ret hh dp K Z X) (hdg : decode cc pc = .ok (.invokevirtual idx, 3)) (hq : pc + 3 = q) (hM : zMV y b L r np) (h1 : Cond.methodLink own idx y ∈ lw_all) (hC : Ctr l s0 y (ws_ y b L r) d mc ms T) (hd : d + 1 ≤ dp) (hst : st = As.reverse ++ .ref v :: rest) (hlen : As.length = np) (hr : (rest.map fun v => v.category).sum ≤ 8) (hk : mc ≤ k) (hn : ms ≤ n) (hv : zhas l s0 g v y.cls)
    (hT : T (.ref v :: As) g (zk Z X pc q ls rest (k - mc) (n - ms))) : Z pc ls st g k n := by
  subst hq
  obtain ⟨Φ, p, e, s, m, args, below, meth, c, mc0, ms0, Q, hX, hMQ, rfl, rfl⟩ := G
  intro H locs cells slots lsA hl0 hg hS hc1 hs
  obtain ⟨hx, hb, hml, hown, hts, hret, hlk, htab, hnm0, hW, hlow, h0⟩ := id hX
  obtain ⟨m1, m2, m3, m4, m5, m6⟩ := hM
  have hp := zpre (av := .ref v :: As) hX hg
  exact zrun (vx_runV (b := v) (As := As) (rest := rest) ⟨hx, hb, hml, hown, hts⟩ (hC (.ref v :: As) g _ hT) (cwV np hts (lw_V h1 m1 m2 m3 m4) rfl rfl rfl ⟨rfl, m5⟩ (zroom hd m6)) ⟨hp.1, hv s H hW h0 hg, hp.2⟩ rfl hlen (hl0.1.trans hml) hst (lv_room hr) hdg ⟨by show cells + mc ≤ mc0; exact Nat.le_trans (Nat.add_le_add_left hk _) hc1, by show slots + ms ≤ ms0; exact Nat.le_trans (Nat.add_le_add_left hn _) hs⟩) hl0 hg hlow hS hc1 hs hk hn
theorem z_VW (G : Good l s0 own nm cc nL ret hh dp K Z X) (hdg : decode cc pc = .ok (.invokevirtual idx, 3)) (hq : pc + 3 = q) (hM : zMVW y b L r hw np) (h1 : Cond.methodLink own idx y ∈ lw_all) (hC : Ctr l s0 y (wsW_ y b L r hw) d mc ms T) (hd : d + 1 ≤ dp) (hst : st = As.reverse ++ .ref v :: rest) (hlen : As.length = np) (hr : (rest.map fun v => v.category).sum ≤ 8) (hk : mc ≤ k) (hn : ms ≤ n) (hv : zhas l s0 g v y.cls)
    (hT : T (.ref v :: As) g (zk Z X pc q ls rest (k - mc) (n - ms))) : Z pc ls st g k n := by
  subst hq
  obtain ⟨Φ, p, e, s, m, args, below, meth, c, mc0, ms0, Q, hX, hMQ, rfl, rfl⟩ := G
  intro H locs cells slots lsA hl0 hg hS hc1 hs
  obtain ⟨hx, hb, hml, hown, hts, hret, hlk, htab, hnm0, hW, hlow, h0⟩ := id hX
  obtain ⟨m1, m2, m3, m4, m5, m6⟩ := hM
  have hp := zpre (av := .ref v :: As) hX hg
  exact zrun (vx_runVX (b := v) (As := As) (rest := rest) ⟨hx, hb, hml, hown, hts⟩ (hC (.ref v :: As) g _ hT) (vx_cwVW np hts (lw_VW h1 m1 m2 m3 m4) rfl rfl rfl ⟨rfl, m5⟩ (zroom hd m6)) ⟨hp.1, hv s H hW h0 hg, hp.2⟩ rfl hlen (hl0.1.trans hml) hst (lv_room hr) hdg ⟨by show cells + mc ≤ mc0; exact Nat.le_trans (Nat.add_le_add_left hk _) hc1, by show slots + ms ≤ ms0; exact Nat.le_trans (Nat.add_le_add_left hn _) hs⟩) hl0 hg hlow hS hc1 hs hk hn
theorem z_I (G : Good l s0 own nm cc nL ret hh dp K Z X) (hdg : decode cc pc = .ok (.invokespecial idx, 3)) (hq : pc + 3 = q) (hM : zMI y b L np) (h1 : Cond.methodLink own idx y ∈ lw_all) (hC : Ctr l s0 y (ws_ y b L none) d mc ms T) (hd : d + 1 ≤ dp) (hst : st = As.reverse ++ .ref v :: rest) (hlen : As.length = np) (hr : (rest.map fun v => v.category).sum ≤ 8) (hk : mc ≤ k) (hn : ms ≤ n)
    (hT : T (.ref v :: As) g (zk Z X pc q ls rest (k - mc) (n - ms))) : Z pc ls st g k n := by
  subst hq
  obtain ⟨Φ, p, e, s, m, args, below, meth, c, mc0, ms0, Q, hX, hMQ, rfl, rfl⟩ := G
  intro H locs cells slots lsA hl0 hg hS hc1 hs
  obtain ⟨hx, hb, hml, hown, hts, hret, hlk, htab, hnm0, hW, hlow, h0⟩ := id hX
  obtain ⟨m1, m2, m3, m4, m5, m6⟩ := hM
  have hp := zpre (av := .ref v :: As) hX hg
  exact zrun (vx_runI (b := v) (As := As) (rest := rest) ⟨hx, hb, hml, hown, hts⟩ (hC (.ref v :: As) g _ hT) (cwI np hts (lw_meth m3) rfl rfl rfl (hts _ m2) (hts _ h1) (hts _ m1) m4 m5 (zroom hd m6)) hp rfl hlen (hl0.1.trans hml) hst (lv_room hr) hdg ⟨by show cells + mc ≤ mc0; exact Nat.le_trans (Nat.add_le_add_left hk _) hc1, by show slots + ms ≤ ms0; exact Nat.le_trans (Nat.add_le_add_left hn _) hs⟩) hl0 hg hlow hS hc1 hs hk hn
/-! what is thrown goes out, or is caught -/
theorem zx_out (G : Good l s0 own nm cc nL ret hh dp K Z X) {E : String} (hout : ∀ x ∈ hh, covers x pc = false) (hk : K (.inr E) g) : X pc ls E g k n := by
  obtain ⟨Φ, p, e, s, m, args, below, meth, c, mc0, ms0, Q, hX, hMQ, rfl, rfl⟩ := G
  intro H locs cells slots lsA rest q ce hl0 hg hS hc1 hs hce hcv hcl
  obtain ⟨hx, hb, hml, hown, hts, hret, hlk, htab, hnm0, hW, hlow, h0⟩ := hX
  exact zXm hMQ (vx_out (by rw [htab]; exact hout) hlk hce hcv hcl (fun t ht hA => ⟨g, hk, by rw [ht]; exact hg, by rw [ht]; exact hS.1⟩) hS.2.2 (Nat.le_trans (Nat.le_add_right _ _) hc1) (Nat.le_trans (Nat.le_add_right _ _) hs))
end
