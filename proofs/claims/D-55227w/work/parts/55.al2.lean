/-! JDK: ArrayList, its box, its iterator -/
theorem zEA {l : Launch} {s0 : State} (h0 : St0 l s0) : ∃ t : Nat, zSt s0 "java/util/ArrayList" "DEFAULTCAPACITY_EMPTY_ELEMENTDATA" "[Ljava/lang/Object;" (.ref t) ∧ zTS s0 zOA t 0 (fun _ => .null) := by
  obtain ⟨-, b0, ht, hn⟩ := h0
  have hlen : (Term.length (.static "java/util/ArrayList" "DEFAULTCAPACITY_EMPTY_ELEMENTDATA" "[Ljava/lang/Object;")).eval #[Value.ref b0] s0 none [] s0 = some (.int (Int32.ofNat 0)) := va_eqI (first := s0) (by simpa [Cond.before, Cond.holds] using zget_ok [true, false, false, false, false, false, false, true, false, false] (w := .eq (.length (.static "java/util/ArrayList" "DEFAULTCAPACITY_EMPTY_ELEMENTDATA" "[Ljava/lang/Object;")) (.int (Int32.ofNat 0))) rfl hn) rfl
  obtain ⟨t, h1, h2⟩ := va_Tof (f := fun _ => .null) (by decide) (zget_ok [true, false, false, false, false, false, false, false, true, true, false] (w := .arrayOf (.static "java/util/ArrayList" "DEFAULTCAPACITY_EMPTY_ELEMENTDATA" "[Ljava/lang/Object;") zOA) rfl hn) hlen (fun j hj => absurd hj (Nat.not_lt_zero j)) (zno_A (s0 := s0))
  exact ⟨t, va_Zref (ht _ q200) (ht _ (lw_all_tbl q120)) h1 (zno_A (s0 := s0)), h2⟩
noncomputable def zET (s0 : State) : Nat := Classical.epsilon (fun t => zSt s0 "java/util/ArrayList" "DEFAULTCAPACITY_EMPTY_ELEMENTDATA" "[Ljava/lang/Object;" (.ref t) ∧ zTS s0 zOA t 0 (fun _ => .null))
theorem zET_ok {l : Launch} {s0 : State} (h0 : St0 l s0) : zSt s0 "java/util/ArrayList" "DEFAULTCAPACITY_EMPTY_ELEMENTDATA" "[Ljava/lang/Object;" (.ref (zET s0)) ∧ zTS s0 zOA (zET s0) 0 (fun _ => .null) := Classical.epsilon_spec (zEA h0)
def alC (md : Int32) (b n : Nat) : AO := .inl (.inr (8, [.int md, .ref b, .int (nI n)]))
def pAL (s0 : State) (md : Int32) (n : Nat) (f : Nat → Nat) : Hp → Nat → Prop := fun g a => n ≤ 10 ∧ ((n = 0 ∧ g a = some (alC md (zET s0) 0)) ∨ ∃ (b : Nat) (F : Nat → Option Nat), g a = some (alC md b n) ∧ g b = some (zoa 10 F) ∧ ∀ i, i < n → F i = some (f i))
theorem pAL_k {s0 : State} {md : Int32} {n : Nat} {f : Nat → Nat} : zisK (zbx 1 (pAL s0 md n f)) 8 := by
  refine zisK_box (fun g2 a hp w hw => ?_)
  rcases hp.2 with ⟨-, h⟩ | ⟨b, F, h, -⟩ <;> (rw [h] at hw; cases hw; exact zisK_raw _ _)
/-- a box whose cells the call leaves as they are -/
theorem fBox_ro {T : List Value → Hp → (Res → Hp → Prop) → Prop} {av : List Value} {g : Hp} {K : Res → Hp → Prop} {a kx : Nat} {pic : Hp → Nat → Prop} {r : Res} (ha : g a = some (zbx kx pic)) (hK : K r g)
    (h : ∀ g2 : Hp, pic g2 a → T av g2 (fun r' g3 => r' = r ∧ g3 = g2)) (hm : ∀ {av : List Value} {g : Hp} {K K' : Res → Hp → Prop}, (∀ r g, K r g → K' r g) → T av g K → T av g K') : fBox T av g K := by
  refine ⟨a, kx, pic, ha, fun g2 hp hw => hm ?_ (h g2 hp)⟩
  rintro r' g3 ⟨rfl, rfl⟩
  exact ⟨pic, hp, hw, by rw [zup_id ha]; exact hK⟩
def T_J0_init : List Value → Hp → (Res → Hp → Prop) → Prop := fun av g K => ∃ (a : Nat), av = [.ref a] ∧ K (.inl none) g
theorem C_J0_init {l : Launch} {s0 : State} (h0 : St0 l s0) : Ctr l s0 yJ0_init (ws_ yJ0_init cJ0_init 1 (Option.none : Option Jvm.ClassFile.FieldType)) 1 0 0 T_J0_init := by
  refine ctr_of h0 (by decide) ?_ ?_
  · rintro av g K ⟨a, rfl, hK0⟩
    exact Nat.le_of_ble_eq_true rfl
  · rintro Z X av g K G ⟨a, rfl, hK0⟩
    show Z 0 [some (.ref a)] [] _ _ _
    refine z_aload_n G dJ0_init_0 rfl rfl rfl ?_
    refine z_objInit G dJ0_init_1 rfl q198 (by decide) (Nat.le_of_ble_eq_true rfl) ?_
    exact z_vret G dJ0_init_4 rfl (hK0)
def T_J1_init : List Value → Hp → (Res → Hp → Prop) → Prop := fun av g K => ∃ (a b : Nat) (md : Int32) (v w : Value), av = [.ref a] ∧ g a = some (.inl (.inr (8, [.int md, v, w]))) ∧ K (.inl none) (zup g a (.inl (.inr (8, [.int 0, v, w]))))
theorem C_J1_init {l : Launch} {s0 : State} (h0 : St0 l s0) : Ctr l s0 yJ1_init (ws_ yJ1_init cJ1_init 1 (Option.none : Option Jvm.ClassFile.FieldType)) 2 0 0 T_J1_init := by
  refine ctr_of h0 (by decide) ?_ ?_
  · rintro av g K ⟨a, b, md, v, w, rfl, hp0, hK0⟩
    exact Nat.le_of_ble_eq_true rfl
  · rintro Z X av g K G ⟨a, b, md, v, w, rfl, hp0, hK0⟩
    show Z 0 [some (.ref a)] [] _ _ _
    refine z_aload_n G dJ1_init_0 rfl rfl rfl ?_
    refine z_I G dJ1_init_1 rfl m_J0_init q195 (C_J0_init h0) (by decide) (As := []) rfl rfl (Nat.le_of_ble_eq_true rfl) (Nat.zero_le _) (Nat.zero_le _) (⟨a, rfl, ?_⟩)
    refine z_aload_n G dJ1_init_4 rfl rfl rfl ?_
    refine z_iconst G dJ1_init_5 rfl (v := 0) (by decide) ?_
    refine z_put G dJ1_init_6 rfl (j := 0) fl_J1_7_8p hp0 rfl rfl (Nat.le_of_ble_eq_true rfl) ?_
    exact z_vret G dJ1_init_9 rfl (hK0)
def T_J2_init (l : Launch) (s0 : State) : List Value → Hp → (Res → Hp → Prop) → Prop := fun av g K => ∃ (a : Nat), av = [.ref a] ∧ g a = some (.inl (.inr (8, [.int 0, .null, .int 0]))) ∧ (∀ f : Nat → Nat, K (.inl none) (zup g a (zbx 1 (pAL s0 0 0 f))))
theorem C_J2_init {l : Launch} {s0 : State} (h0 : St0 l s0) : Ctr l s0 yJ2_init (ws_ yJ2_init cJ2_init 1 (Option.none : Option Jvm.ClassFile.FieldType)) 3 0 0 (T_J2_init l s0) := by
  refine ctr_of h0 (by decide) ?_ ?_
  · rintro av g K ⟨a, rfl, hp0, hK0⟩
    exact Nat.le_of_ble_eq_true rfl
  · rintro Z X av g K G ⟨a, rfl, hp0, hK0⟩
    show Z 0 [some (.ref a)] [] _ _ _
    refine z_aload_n G dJ2_init_0 rfl rfl rfl ?_
    refine z_I G dJ2_init_1 rfl m_J1_init q192 (C_J1_init h0) (by decide) (As := []) rfl rfl (Nat.le_of_ble_eq_true rfl) (Nat.zero_le _) (Nat.zero_le _) (⟨a, a, 0, _, _, rfl, hp0, ?_⟩)
    refine z_aload_n G dJ2_init_4 rfl rfl rfl ?_
    refine z_getst G (zET_ok h0).1 dJ2_init_5 rfl q199 ?_
    refine z_put G dJ2_init_8 rfl (j := 1) fl_J2_9_8p (zup_s _ _ _) rfl rfl (Nat.le_of_ble_eq_true rfl) ?_
    rw [zup_zup]
    refine z_wrap1 G 1 (pAL s0 0 0 (fun _ => 0)) ⟨Nat.zero_le _, Or.inl ⟨rfl, on1_a⟩⟩ ?_
    exact z_vret G dJ2_init_11 rfl (hK0 _)
def T_J2_grow_2 (l : Launch) (s0 : State) : List Value → Hp → (Res → Hp → Prop) → Prop := fun av g K => ∃ (a : Nat) (md : Int32), av = [.ref a, .int (nI 1)] ∧ g a = some (alC md (zET s0) 0) ∧ (∀ c : Nat, g c = none → K (.inl (some (.ref c))) (zup (zup g c (zoa 10 (fun _ => none))) a (alC md c 0)))
theorem C_J2_grow_2 {l : Launch} {s0 : State} (h0 : St0 l s0) : Ctr l s0 yJ2_grow_2 (ws_ yJ2_grow_2 cJ2_grow_2 4 (Option.some (Jvm.ClassFile.FieldType.array (Jvm.ClassFile.FieldType.object "java/lang/Object")))) 1 1 10 (T_J2_grow_2 l s0) := by
  refine ctr_of h0 (by decide) ?_ ?_
  · rintro av g K ⟨a, md, rfl, hp0, hK0⟩
    exact Nat.le_of_ble_eq_true rfl
  · rintro Z X av g K G ⟨a, md, rfl, hp0, hK0⟩
    show Z 0 [some (.ref a), some (.int (nI 1)), none, none] [] _ _ _
    refine z_aload_n G dJ2_grow_2_0 rfl rfl rfl ?_
    refine z_get G dJ2_grow_2_1 rfl (j := 1) fl_J2_9_8 hp0 rfl ?_
    refine z_lenS G (zET_ok h0).2 dJ2_grow_2_4 rfl ?_
    refine z_istore_n G dJ2_grow_2_5 rfl (i := 2) rfl (by decide) (zcat_s rfl) (show Z 6 [_, _, _, _] _ _ _ _ from ?_)
    refine z_iload_n G dJ2_grow_2_6 rfl rfl rfl ?_
    refine z_if_gt G dJ2_grow_2_7 rfl (tgt := 20) (by decide) (fun c_7 => ?_) (fun c_7 => ?_)
    · exact absurd c_7 (by decide)
    · have c_7n := Int32.not_lt.mp c_7
      refine z_aload_n G dJ2_grow_2_10 rfl rfl rfl ?_
      refine z_get G dJ2_grow_2_11 rfl (j := 1) fl_J2_9_8 hp0 rfl ?_
      refine z_getst G (zET_ok h0).1 dJ2_grow_2_14 rfl q199 ?_
      show Z 17 _ (va_rf (some (zET s0)) :: va_rf (some (zET s0)) :: []) _ _ _
      refine z_acmp_eq G dJ2_grow_2_17 rfl (tgt := 45) (by decide) (fun c_17 => ?_) (fun c_17 => ?_)
      · refine z_aload_n G dJ2_grow_2_45 rfl rfl rfl ?_
        refine z_bipush G dJ2_grow_2_46 rfl (v := 10) (by decide) ?_
        refine z_iload_n G dJ2_grow_2_48 rfl rfl rfl ?_
        refine z_mmax G dJ2_grow_2_49 rfl q1099 (by decide) (Nat.le_of_ble_eq_true rfl) ?_
        refine z_anew G dJ2_grow_2_52 rfl q1100 (show (if (10 : Int32) < nI 1 then nI 1 else 10) = nI 10 by decide) (by decide) (Nat.le_of_ble_eq_true rfl) (Nat.le_of_ble_eq_true rfl) (fun n52 hn52 => ?_)
        have hne : a ≠ n52 := fun e => by rw [← e, hp0] at hn52; cases hn52
        refine z_dup_x1 G dJ2_grow_2_55 rfl rfl rfl ?_
        refine z_put G dJ2_grow_2_56 rfl (j := 1) fl_J2_9_8p ((zup_n _ _ hne).trans hp0) rfl rfl (Nat.le_of_ble_eq_true rfl) ?_
        exact z_aret G dJ2_grow_2_59 rfl rfl rfl (hK0 _ hn52)
      · exact absurd rfl c_17
def T_J2_grow (l : Launch) (s0 : State) : List Value → Hp → (Res → Hp → Prop) → Prop := fun av g K => ∃ (a : Nat) (md : Int32), av = [.ref a] ∧ g a = some (alC md (zET s0) 0) ∧ (∀ c : Nat, g c = none → K (.inl (some (.ref c))) (zup (zup g c (zoa 10 (fun _ => none))) a (alC md c 0)))
theorem C_J2_grow {l : Launch} {s0 : State} (h0 : St0 l s0) : Ctr l s0 yJ2_grow (ws_ yJ2_grow cJ2_grow 1 (Option.some (Jvm.ClassFile.FieldType.array (Jvm.ClassFile.FieldType.object "java/lang/Object")))) 2 1 10 (T_J2_grow l s0) := by
  refine ctr_of h0 (by decide) ?_ ?_
  · rintro av g K ⟨a, md, rfl, hp0, hK0⟩
    exact Nat.le_of_ble_eq_true rfl
  · rintro Z X av g K G ⟨a, md, rfl, hp0, hK0⟩
    show Z 0 [some (.ref a)] [] _ _ _
    refine z_aload_n G dJ2_grow_0 rfl rfl rfl ?_
    refine z_aload_n G dJ2_grow_1 rfl rfl rfl ?_
    refine z_get G dJ2_grow_2 rfl (j := 2) fl_J2_48_8 hp0 rfl ?_
    refine z_iconst G dJ2_grow_5 rfl (v := 1) (by decide) ?_
    refine z_iadd G dJ2_grow_6 rfl ?_
    refine z_V G dJ2_grow_7 rfl m_J2_grow_2 q1085 (C_J2_grow_2 h0) (by decide) (As := [_]) rfl rfl (Nat.le_of_ble_eq_true rfl) (Nat.le_refl _) (Nat.le_refl _) (zhas_K hp0 (zisK_raw _ _) k_J2) (⟨a, md, rfl, hp0, fun c hc => ?_⟩)
    exact z_aret G dJ2_grow_10 rfl rfl rfl (hK0 c hc)
def T_J2_add_2 (l : Launch) (s0 : State) : List Value → Hp → (Res → Hp → Prop) → Prop := fun av g K => ∃ (a b n x : Nat) (v : AO) (md : Int32) (F : Nat → Option Nat), av = [.ref a, .ref x, .ref b, .int (nI n)] ∧ g a = some (alC md b n) ∧ g b = some (zoa 10 F) ∧ n < 10 ∧ g x = some v ∧ (∀ g1 : Hp, g1 x = some v → zany l s0 g1 x) ∧ K (.inl none) (zup (zup g b (zoa 10 (va_up F n (some x)))) a (alC md b (n + 1)))
theorem C_J2_add_2 {l : Launch} {s0 : State} (h0 : St0 l s0) : Ctr l s0 yJ2_add_2 (ws_ yJ2_add_2 cJ2_add_2 4 (Option.none : Option Jvm.ClassFile.FieldType)) 3 1 10 (T_J2_add_2 l s0) := by
  refine ctr_of h0 (by decide) ?_ ?_
  · rintro av g K ⟨a, b, n, x, v, md, F, rfl, hp0, hp1, hp2, hp3, hp4, hK0⟩
    exact Nat.le_of_ble_eq_true rfl
  · rintro Z X av g K G ⟨a, b, n, x, v, md, F, rfl, hp0, hp1, hp2, hp3, hp4, hK0⟩
    show Z 0 [some (.ref a), some (.ref x), some (.ref b), some (.int (nI n))] [] _ _ _
    refine z_iload_n G dJ2_add_2_0 rfl rfl rfl ?_
    refine z_aload_n G dJ2_add_2_1 rfl rfl rfl ?_
    refine z_alen G dJ2_add_2_2 rfl hp1 rfl ?_
    refine z_icmp_ne G dJ2_add_2_3 rfl (tgt := 11) (by decide) (fun c_3 => ?_) (fun c_3 => ?_)
    · have c_3N := (not_congr <| nI_eq (a := n) (b := 10) (by omega) (by omega)).mp c_3
      have hne : a ≠ b := fun e => by rw [e, hp1] at hp0; cases hp0
      refine z_aload_n G dJ2_add_2_11 rfl rfl rfl ?_
      refine z_iload_n G dJ2_add_2_12 rfl rfl rfl ?_
      refine z_aload_n G dJ2_add_2_13 rfl rfl rfl ?_
      refine z_aast G dJ2_add_2_14 rfl hp1 (vp_in_nI hp2 (by decide)) (hp4 _ hp3) ?_
      rw [nI_clamp (by omega)]
      refine z_aload_n G dJ2_add_2_15 rfl rfl rfl ?_
      refine z_iload_n G dJ2_add_2_16 rfl rfl rfl ?_
      refine z_iconst G dJ2_add_2_17 rfl (v := 1) (by decide) ?_
      refine z_iaddN G (n) (1) rfl rfl dJ2_add_2_18 rfl ?_
      refine z_put G dJ2_add_2_19 rfl (j := 2) fl_J2_48_8p ((zup_n _ _ hne).trans hp0) rfl rfl (Nat.le_of_ble_eq_true rfl) ?_
      exact z_vret G dJ2_add_2_22 rfl (hK0)
    · exact absurd ((nI_eq (a := n) (b := 10) (by omega) (by omega)).mp c_3) (by omega)
def T_J2_add_2e (l : Launch) (s0 : State) : List Value → Hp → (Res → Hp → Prop) → Prop := fun av g K => ∃ (a x : Nat) (v : AO) (md : Int32), av = [.ref a, .ref x, .ref (zET s0), .int (nI 0)] ∧ g a = some (alC md (zET s0) 0) ∧ g x = some v ∧ (∀ g1 : Hp, g1 x = some v → zany l s0 g1 x) ∧ x ≠ a ∧ (∀ (c : Nat) (h : Hp), g c = none → h a = some (alC md c 1) → h c = some (zoa 10 (va_up (fun _ => none) 0 (some x))) → (∀ q, q ≠ a → q ≠ c → h q = g q) → K (.inl none) h)
theorem C_J2_add_2e {l : Launch} {s0 : State} (h0 : St0 l s0) : Ctr l s0 yJ2_add_2 (ws_ yJ2_add_2 cJ2_add_2 4 (Option.none : Option Jvm.ClassFile.FieldType)) 3 1 10 (T_J2_add_2e l s0) := by
  refine ctr_of h0 (by decide) ?_ ?_
  · rintro av g K ⟨a, x, v, md, rfl, hp0, hp1, hp2, hp3, hK0⟩
    exact Nat.le_of_ble_eq_true rfl
  · rintro Z X av g K G ⟨a, x, v, md, rfl, hp0, hp1, hp2, hp3, hK0⟩
    show Z 0 [some (.ref a), some (.ref x), some (.ref (zET s0)), some (.int (nI 0))] [] _ _ _
    refine z_iload_n G dJ2_add_2_0 rfl rfl rfl ?_
    refine z_aload_n G dJ2_add_2_1 rfl rfl rfl ?_
    refine z_lenS G (zET_ok h0).2 dJ2_add_2_2 rfl ?_
    refine z_icmp_ne G dJ2_add_2_3 rfl (tgt := 11) (by decide) (fun c_3 => ?_) (fun c_3 => ?_)
    · exact absurd rfl c_3
    · refine z_aload_n G dJ2_add_2_6 rfl rfl rfl ?_
      refine z_V G dJ2_add_2_7 rfl m_J2_grow q1081 (C_J2_grow h0) (by decide) (As := []) rfl rfl (Nat.le_of_ble_eq_true rfl) (Nat.le_refl _) (Nat.le_refl _) (zhas_K hp0 (zisK_raw _ _) k_J2) (⟨a, md, rfl, hp0, fun c hc => ?_⟩)
      have hne : a ≠ c := fun e => by rw [← e, hp0] at hc; cases hc
      have hxc : x ≠ c := fun e => by rw [← e, hp1] at hc; cases hc
      refine z_astore_n G dJ2_add_2_10 rfl (i := 2) rfl rfl (by decide) (zcat_s rfl) (show Z 11 [_, _, _, _] _ _ _ _ from ?_)
      refine z_aload_n G dJ2_add_2_11 rfl rfl rfl ?_
      refine z_iload_n G dJ2_add_2_12 rfl rfl rfl ?_
      refine z_aload_n G dJ2_add_2_13 rfl rfl rfl ?_
      refine z_aast G dJ2_add_2_14 rfl ((zup_n _ _ hne.symm).trans (zup_s _ _ _)) (vp_in_nI (by decide) (by decide)) (hp2 _ ((zup_n _ _ hp3).trans ((zup_n _ _ hxc).trans hp1))) ?_
      rw [nI_clamp (by decide)]
      refine z_aload_n G dJ2_add_2_15 rfl rfl rfl ?_
      refine z_iload_n G dJ2_add_2_16 rfl rfl rfl ?_
      refine z_iconst G dJ2_add_2_17 rfl (v := 1) (by decide) ?_
      refine z_iadd G dJ2_add_2_18 rfl ?_
      refine z_put G dJ2_add_2_19 rfl (j := 2) fl_J2_48_8p ((zup_n _ _ hne).trans (zup_s _ _ _)) rfl rfl (Nat.le_of_ble_eq_true rfl) ?_
      exact z_vret G dJ2_add_2_22 rfl (hK0 c _ hc (zup_s _ _ _) ((zup_n _ _ hne.symm).trans (zup_s _ _ _)) (fun q h1 h2 => (zup_n _ _ h1).trans ((zup_n _ _ h2).trans ((zup_n _ _ h1).trans (zup_n _ _ h2)))))
def T_J2_add (l : Launch) (s0 : State) : List Value → Hp → (Res → Hp → Prop) → Prop := fun av g K => ∃ (a b n x : Nat) (v : AO) (md : Int32) (F : Nat → Option Nat), av = [.ref a, .ref x] ∧ g a = some (alC md b n) ∧ g b = some (zoa 10 F) ∧ n < 10 ∧ g x = some v ∧ (∀ g1 : Hp, g1 x = some v → zany l s0 g1 x) ∧ x ≠ a ∧ (∀ h : Hp, h a = some (alC (md + 1) b (n + 1)) → h b = some (zoa 10 (va_up F n (some x))) → (∀ q, q ≠ a → q ≠ b → h q = g q) → K (.inl (some (.int 1))) h)
theorem C_J2_add {l : Launch} {s0 : State} (h0 : St0 l s0) : Ctr l s0 yJ2_add (ws_ yJ2_add cJ2_add 2 (Option.some Jvm.ClassFile.FieldType.boolean)) 4 1 10 (T_J2_add l s0) := by
  refine ctr_of h0 (by decide) ?_ ?_
  · rintro av g K ⟨a, b, n, x, v, md, F, rfl, hp0, hp1, hp2, hp3, hp4, hp5, hK0⟩
    exact Nat.le_of_ble_eq_true rfl
  · rintro Z X av g K G ⟨a, b, n, x, v, md, F, rfl, hp0, hp1, hp2, hp3, hp4, hp5, hK0⟩
    show Z 0 [some (.ref a), some (.ref x)] [] _ _ _
    refine z_aload_n G dJ2_add_0 rfl rfl rfl ?_
    refine z_dup G dJ2_add_1 rfl rfl ?_
    refine z_get G dJ2_add_2 rfl (j := 0) fl_J2_63_8 hp0 rfl ?_
    refine z_iconst G dJ2_add_5 rfl (v := 1) (by decide) ?_
    refine z_iadd G dJ2_add_6 rfl ?_
    refine z_put G dJ2_add_7 rfl (j := 0) fl_J2_63_8p hp0 rfl rfl (Nat.le_of_ble_eq_true rfl) ?_
    have hne : a ≠ b := fun e => by rw [e, hp1] at hp0; cases hp0
    refine z_aload_n G dJ2_add_10 rfl rfl rfl ?_
    refine z_aload_n G dJ2_add_11 rfl rfl rfl ?_
    refine z_aload_n G dJ2_add_12 rfl rfl rfl ?_
    refine z_get G dJ2_add_13 rfl (j := 1) fl_J2_9_8 (zup_s _ _ _) rfl ?_
    refine z_aload_n G dJ2_add_16 rfl rfl rfl ?_
    refine z_get G dJ2_add_17 rfl (j := 2) fl_J2_48_8 (zup_s _ _ _) rfl ?_
    refine z_V G dJ2_add_20 rfl m_J2_add_2 q1077 (C_J2_add_2 h0) (by decide) (As := [_, _, _]) rfl rfl (Nat.le_of_ble_eq_true rfl) (Nat.le_refl _) (Nat.le_refl _) (zhas_K (zup_s _ _ _) (zisK_raw _ _) k_J2) (⟨a, b, n, x, v, md + 1, F, rfl, zup_s _ _ _, (zup_n _ _ hne.symm).trans hp1, hp2, (zup_n _ _ hp5).trans hp3, hp4, ?_⟩)
    refine z_iconst G dJ2_add_23 rfl (v := 1) (by decide) ?_
    exact z_iret G dJ2_add_24 rfl rfl (hK0 _ (zup_s _ _ _) ((zup_n _ _ hne.symm).trans (zup_s _ _ _)) (fun q h1 h2 => (zup_n _ _ h1).trans ((zup_n _ _ h2).trans (zup_n _ _ h1))))
def T_J2_add_e (l : Launch) (s0 : State) : List Value → Hp → (Res → Hp → Prop) → Prop := fun av g K => ∃ (a x : Nat) (v : AO) (md : Int32), av = [.ref a, .ref x] ∧ g a = some (alC md (zET s0) 0) ∧ g x = some v ∧ (∀ g1 : Hp, g1 x = some v → zany l s0 g1 x) ∧ x ≠ a ∧ (∀ (c : Nat) (h : Hp), g c = none → h a = some (alC (md + 1) c 1) → h c = some (zoa 10 (va_up (fun _ => none) 0 (some x))) → (∀ q, q ≠ a → q ≠ c → h q = g q) → K (.inl (some (.int 1))) h)
theorem C_J2_add_e {l : Launch} {s0 : State} (h0 : St0 l s0) : Ctr l s0 yJ2_add (ws_ yJ2_add cJ2_add 2 (Option.some Jvm.ClassFile.FieldType.boolean)) 4 1 10 (T_J2_add_e l s0) := by
  refine ctr_of h0 (by decide) ?_ ?_
  · rintro av g K ⟨a, x, v, md, rfl, hp0, hp1, hp2, hp3, hK0⟩
    exact Nat.le_of_ble_eq_true rfl
  · rintro Z X av g K G ⟨a, x, v, md, rfl, hp0, hp1, hp2, hp3, hK0⟩
    show Z 0 [some (.ref a), some (.ref x)] [] _ _ _
    refine z_aload_n G dJ2_add_0 rfl rfl rfl ?_
    refine z_dup G dJ2_add_1 rfl rfl ?_
    refine z_get G dJ2_add_2 rfl (j := 0) fl_J2_63_8 hp0 rfl ?_
    refine z_iconst G dJ2_add_5 rfl (v := 1) (by decide) ?_
    refine z_iadd G dJ2_add_6 rfl ?_
    refine z_put G dJ2_add_7 rfl (j := 0) fl_J2_63_8p hp0 rfl rfl (Nat.le_of_ble_eq_true rfl) ?_
    refine z_aload_n G dJ2_add_10 rfl rfl rfl ?_
    refine z_aload_n G dJ2_add_11 rfl rfl rfl ?_
    refine z_aload_n G dJ2_add_12 rfl rfl rfl ?_
    refine z_get G dJ2_add_13 rfl (j := 1) fl_J2_9_8 (zup_s _ _ _) rfl ?_
    refine z_aload_n G dJ2_add_16 rfl rfl rfl ?_
    refine z_get G dJ2_add_17 rfl (j := 2) fl_J2_48_8 (zup_s _ _ _) rfl ?_
    refine z_V G dJ2_add_20 rfl m_J2_add_2 q1077 (C_J2_add_2e h0) (by decide) (As := [_, _, _]) rfl rfl (Nat.le_of_ble_eq_true rfl) (Nat.le_refl _) (Nat.le_refl _) (zhas_K (zup_s _ _ _) (zisK_raw _ _) k_J2) (⟨a, x, v, md + 1, rfl, zup_s _ _ _, (zup_n _ _ hp3).trans hp1, hp2, hp3, fun c h hc h1 h2 h3 => z_iconst G dJ2_add_23 rfl (v := 1) (by decide) (z_iret G dJ2_add_24 rfl rfl (hK0 c h ?_ h1 h2 (fun q q1 q2 => (h3 q q1 q2).trans (zup_n _ _ q1))))⟩)
    have hca : c ≠ a := fun e => by rw [e, zup_s] at hc; cases hc
    exact (zup_n _ _ hca).symm.trans hc
def T_al_add (l : Launch) (s0 : State) : List Value → Hp → (Res → Hp → Prop) → Prop := fun av g K => ∃ (a x n : Nat) (v : AO) (md : Int32) (f : Nat → Nat), av = [.ref a, .ref x] ∧ g a = some (zbx 1 (pAL s0 md n f)) ∧ n < 10 ∧ g x = some v ∧ (∀ g1 : Hp, g1 x = some v → zany l s0 g1 x) ∧ x ≠ a ∧ K (.inl (some (.int 1))) (zup g a (zbx 1 (pAL s0 (md + 1) (n + 1) (upN f n x))))
theorem B_al_add {l : Launch} {s0 : State} (h0 : St0 l s0) : Ctr l s0 yJ2_add (ws_ yJ2_add cJ2_add 2 (Option.some Jvm.ClassFile.FieldType.boolean)) 4 1 10 (T_al_add l s0) := by
  refine Ctr.mono (Ctr.box (Ctr.or (C_J2_add h0) (C_J2_add_e h0))) ?_
  rintro av g K ⟨a, x, n, v, md, f, rfl, ha, hn, hx, hv, hxa, hK⟩
  refine ⟨a, 1, _, ha, fun g2 hp hw dj => ?_⟩
  have hx' := zov_o dj hxa hx
  rcases hp.2 with ⟨rfl, h1⟩ | ⟨b, F, h1, h2, h3⟩
  · refine Or.inr ⟨a, x, v, md, rfl, zov_in h1, hx', hv, hxa, fun c h hc e1 e2 e3 => ?_⟩
    have hca : c ≠ a := fun e => by rw [e, zov_in h1] at hc; cases hc
    refine tCl_2 (k := K _) (pAL s0 (md + 1) (0 + 1) (upN f 0 x)) dj e1 e2 hca ((zov_none hc).2 hca) e3 ⟨by omega, Or.inr ⟨c, _, on2_a, on2_e hca, fun i hi => ?_⟩⟩ hK
    rw [show i = 0 by omega, upN_s]
    rfl
  · have hba : b ≠ a := fun e => by rw [e, h1] at h2; cases h2
    refine Or.inl ⟨a, b, n, x, v, md, F, rfl, zov_in h1, zov_in h2, hn, hx', hv, hxa, fun h e1 e2 e3 => ?_⟩
    refine tCl_2 (k := K _) (pAL s0 (md + 1) (n + 1) (upN f n x)) dj e1 e2 hba (dj b hba (by rw [h2]; exact fun z => by cases z)) e3 ⟨by omega, Or.inr ⟨b, _, on2_a, on2_e hba, fun i hi => ?_⟩⟩ hK
    unfold va_up
    by_cases e : i = n
    · rw [if_pos e, e, upN_s]
    · rw [if_neg e, upN_n e]
      exact h3 i (by omega)
def itC (cu lr md : Int32) (a : Nat) : AO := .inl (.inr (14, [.int cu, .int lr, .int md, .ref a]))
def T_J15_init : List Value → Hp → (Res → Hp → Prop) → Prop := fun av g K => ∃ (t a b n : Nat) (md : Int32), av = [.ref t, .ref a] ∧ g t = some (.inl (.inr (14, [.int 0, .int 0, .int 0, .null]))) ∧ g a = some (alC md b n) ∧ a ≠ t ∧ K (.inl none) (zup g t (itC 0 (-1) md a))
theorem C_J15_init {l : Launch} {s0 : State} (h0 : St0 l s0) : Ctr l s0 yJ15_init (ws_ yJ15_init cJ15_init 2 (Option.none : Option Jvm.ClassFile.FieldType)) 2 0 0 T_J15_init := by
  refine ctr_of h0 (by decide) ?_ ?_
  · rintro av g K ⟨t, a, b, n, md, rfl, hp0, hp1, hp2, hK0⟩
    exact Nat.le_of_ble_eq_true rfl
  · rintro Z X av g K G ⟨t, a, b, n, md, rfl, hp0, hp1, hp2, hK0⟩
    show Z 0 [some (.ref t), some (.ref a)] [] _ _ _
    refine z_aload_n G dJ15_init_0 rfl rfl rfl ?_
    refine z_aload_n G dJ15_init_1 rfl rfl rfl ?_
    refine z_putF G dJ15_init_2 rfl (j := 3) fl_J15_1_14f rfl hp0 rfl rfl (Nat.le_of_ble_eq_true rfl) ?_
    refine z_aload_n G dJ15_init_5 rfl rfl rfl ?_
    refine z_objInit G dJ15_init_6 rfl q774 (by decide) (Nat.le_of_ble_eq_true rfl) ?_
    refine z_aload_n G dJ15_init_9 rfl rfl rfl ?_
    refine z_iconst G dJ15_init_10 rfl (v := (-1)) (by decide) ?_
    refine z_put G dJ15_init_11 rfl (j := 1) fl_J15_13_14p (zup_s _ _ _) rfl rfl (Nat.le_of_ble_eq_true rfl) ?_
    refine z_aload_n G dJ15_init_14 rfl rfl rfl ?_
    refine z_aload_n G dJ15_init_15 rfl rfl rfl ?_
    refine z_get G dJ15_init_16 rfl (j := 3) fl_J15_1_14 (zup_s _ _ _) rfl ?_
    refine z_get G dJ15_init_19 rfl (j := 0) fl_J15_17_8 ((zup_n _ _ hp2).trans ((zup_n _ _ hp2).trans hp1)) rfl ?_
    refine z_put G dJ15_init_22 rfl (j := 2) fl_J15_22_14p (zup_s _ _ _) rfl rfl (Nat.le_of_ble_eq_true rfl) ?_
    exact z_vret G dJ15_init_25 rfl (by rw [zup_zup, zup_zup]; exact hK0)
def T_J15_hasNext : List Value → Hp → (Res → Hp → Prop) → Prop := fun av g K => ∃ (t a b i n : Nat) (lr md md2 : Int32), av = [.ref t] ∧ g t = some (itC (nI i) lr md a) ∧ g a = some (alC md2 b n) ∧ i < 2 ^ 31 ∧ n < 2 ^ 31 ∧ K (.inl (some (.int (bI (decide (i ≠ n)))))) g
theorem C_J15_hasNext {l : Launch} {s0 : State} (h0 : St0 l s0) : Ctr l s0 yJ15_hasNext (ws_ yJ15_hasNext cJ15_hasNext 1 (Option.some Jvm.ClassFile.FieldType.boolean)) 1 0 0 T_J15_hasNext := by
  refine ctr_of h0 (by decide) ?_ ?_
  · rintro av g K ⟨t, a, b, i, n, lr, md, md2, rfl, hp0, hp1, hp2, hp3, hK0⟩
    exact Nat.le_of_ble_eq_true rfl
  · rintro Z X av g K G ⟨t, a, b, i, n, lr, md, md2, rfl, hp0, hp1, hp2, hp3, hK0⟩
    show Z 0 [some (.ref t)] [] _ _ _
    refine z_aload_n G dJ15_hasNext_0 rfl rfl rfl ?_
    refine z_get G dJ15_hasNext_1 rfl (j := 0) fl_J15_25_14 hp0 rfl ?_
    refine z_aload_n G dJ15_hasNext_4 rfl rfl rfl ?_
    refine z_get G dJ15_hasNext_5 rfl (j := 3) fl_J15_1_14 hp0 rfl ?_
    refine z_getN G dJ15_hasNext_8 rfl (j := 2) fl_J15_28_8n hp1 rfl ?_
    refine z_icmp_eq G dJ15_hasNext_11 rfl (tgt := 18) (by decide) (fun c_11 => ?_) (fun c_11 => ?_)
    · have c_11N := (nI_eq (a := i) (b := n) (by omega) (by omega)).mp c_11
      refine z_iconst G dJ15_hasNext_18 rfl (v := 0) (by decide) ?_
      exact z_iret G dJ15_hasNext_19 rfl rfl (by simpa [bI, c_11, c_11N] using hK0)
    · have c_11N := (not_congr <| nI_eq (a := i) (b := n) (by omega) (by omega)).mp c_11
      refine z_iconst G dJ15_hasNext_14 rfl (v := 1) (by decide) ?_
      refine z_goto G dJ15_hasNext_15 (tgt := 19) (by decide) ?_
      exact z_iret G dJ15_hasNext_19 rfl rfl (by simpa [bI, c_11, c_11N] using hK0)
def T_J15_checkForComodification : List Value → Hp → (Res → Hp → Prop) → Prop := fun av g K => ∃ (t a b n : Nat) (cu lr md : Int32), av = [.ref t] ∧ g t = some (itC cu lr md a) ∧ g a = some (alC md b n) ∧ K (.inl none) g
theorem C_J15_checkForComodification {l : Launch} {s0 : State} (h0 : St0 l s0) : Ctr l s0 yJ15_checkForComodification (ws_ yJ15_checkForComodification cJ15_checkForComodification 1 (Option.none : Option Jvm.ClassFile.FieldType)) 1 0 0 T_J15_checkForComodification := by
  refine ctr_of h0 (by decide) ?_ ?_
  · rintro av g K ⟨t, a, b, n, cu, lr, md, rfl, hp0, hp1, hK0⟩
    exact Nat.le_of_ble_eq_true rfl
  · rintro Z X av g K G ⟨t, a, b, n, cu, lr, md, rfl, hp0, hp1, hK0⟩
    show Z 0 [some (.ref t)] [] _ _ _
    refine z_aload_n G dJ15_checkForComodification_0 rfl rfl rfl ?_
    refine z_get G dJ15_checkForComodification_1 rfl (j := 3) fl_J15_1_14 hp0 rfl ?_
    refine z_get G dJ15_checkForComodification_4 rfl (j := 0) fl_J15_17_8 hp1 rfl ?_
    refine z_aload_n G dJ15_checkForComodification_7 rfl rfl rfl ?_
    refine z_get G dJ15_checkForComodification_8 rfl (j := 2) fl_J15_22_14 hp0 rfl ?_
    refine z_icmp_eq G dJ15_checkForComodification_11 rfl (tgt := 22) (by decide) (fun c_11 => ?_) (fun c_11 => ?_)
    · exact z_vret G dJ15_checkForComodification_22 rfl (hK0)
    · exact absurd rfl c_11
def T_J15_next : List Value → Hp → (Res → Hp → Prop) → Prop := fun av g K => ∃ (t a b i n : Nat) (lr md : Int32) (F : Nat → Option Nat), av = [.ref t] ∧ g t = some (itC (nI i) lr md a) ∧ g a = some (alC md b n) ∧ g b = some (zoa 10 F) ∧ i < n ∧ n ≤ 10 ∧ K (.inl (some (va_rf (F i)))) (zup g t (itC (nI (i + 1)) (nI i) md a))
theorem C_J15_next {l : Launch} {s0 : State} (h0 : St0 l s0) : Ctr l s0 yJ15_next (ws_ yJ15_next cJ15_next 3 (Option.some (Jvm.ClassFile.FieldType.object "java/lang/Object"))) 2 0 0 T_J15_next := by
  refine ctr_of h0 (by decide) ?_ ?_
  · rintro av g K ⟨t, a, b, i, n, lr, md, F, rfl, hp0, hp1, hp2, hp3, hp4, hK0⟩
    exact Nat.le_of_ble_eq_true rfl
  · rintro Z X av g K G ⟨t, a, b, i, n, lr, md, F, rfl, hp0, hp1, hp2, hp3, hp4, hK0⟩
    show Z 0 [some (.ref t), none, none] [] _ _ _
    refine z_aload_n G dJ15_next_0 rfl rfl rfl ?_
    refine z_V G dJ15_next_1 rfl m_J15_checkForComodification q1019 (C_J15_checkForComodification h0) (by decide) (As := []) rfl rfl (Nat.le_of_ble_eq_true rfl) (Nat.zero_le _) (Nat.zero_le _) (zhas_K hp0 (zisK_raw _ _) k_J15) (⟨t, a, b, n, nI i, lr, md, rfl, hp0, hp1, ?_⟩)
    refine z_aload_n G dJ15_next_4 rfl rfl rfl ?_
    refine z_get G dJ15_next_5 rfl (j := 0) fl_J15_25_14 hp0 rfl ?_
    refine z_istore_n G dJ15_next_8 rfl (i := 1) rfl (by decide) (zcat_s rfl) (show Z 9 [_, _, _] _ _ _ _ from ?_)
    refine z_iload_n G dJ15_next_9 rfl rfl rfl ?_
    refine z_aload_n G dJ15_next_10 rfl rfl rfl ?_
    refine z_get G dJ15_next_11 rfl (j := 3) fl_J15_1_14 hp0 rfl ?_
    refine z_getN G dJ15_next_14 rfl (j := 2) fl_J15_28_8n hp1 rfl ?_
    refine z_icmp_lt G dJ15_next_17 rfl (tgt := 28) (by decide) (fun c_17 => ?_) (fun c_17 => ?_)
    · have c_17n := Int32.not_le.mpr c_17
      have c_17N := (nI_ltI (a := i) (b := n) (by omega) (by omega)).mp c_17
      refine z_aload_n G dJ15_next_28 rfl rfl rfl ?_
      refine z_get G dJ15_next_29 rfl (j := 3) fl_J15_1_14 hp0 rfl ?_
      refine z_get G dJ15_next_32 rfl (j := 1) fl_J15_37_8 hp1 rfl ?_
      refine z_astore_n G dJ15_next_35 rfl (i := 2) rfl rfl (by decide) (zcat_s rfl) (show Z 36 [_, _, _] _ _ _ _ from ?_)
      refine z_iload_n G dJ15_next_36 rfl rfl rfl ?_
      refine z_aload_n G dJ15_next_37 rfl rfl rfl ?_
      refine z_alen G dJ15_next_38 rfl hp2 rfl ?_
      refine z_icmp_lt G dJ15_next_39 rfl (tgt := 50) (by decide) (fun c_39 => ?_) (fun c_39 => ?_)
      · have c_39n := Int32.not_le.mpr c_39
        have c_39N := (nI_ltI (a := i) (b := 10) (by omega) (by omega)).mp c_39
        have hbt : b ≠ t := fun e => by rw [e, hp0] at hp2; cases hp2
        refine z_aload_n G dJ15_next_50 rfl rfl rfl ?_
        refine z_iload_n G dJ15_next_51 rfl rfl rfl ?_
        refine z_iconst G dJ15_next_52 rfl (v := 1) (by decide) ?_
        refine z_iaddN G (i) (1) rfl rfl dJ15_next_53 rfl ?_
        refine z_put G dJ15_next_54 rfl (j := 0) fl_J15_25_14p hp0 rfl rfl (Nat.le_of_ble_eq_true rfl) ?_
        refine z_aload_n G dJ15_next_57 rfl rfl rfl ?_
        refine z_aload_n G dJ15_next_58 rfl rfl rfl ?_
        refine z_iload_n G dJ15_next_59 rfl rfl rfl ?_
        refine z_dup_x1 G dJ15_next_60 rfl rfl rfl ?_
        refine z_put G dJ15_next_61 rfl (j := 1) fl_J15_13_14p (zup_s _ _ _) rfl rfl (Nat.le_of_ble_eq_true rfl) ?_
        refine z_aald G dJ15_next_64 rfl ((zup_n _ _ hbt).trans ((zup_n _ _ hbt).trans hp2)) (vp_in_nI (by omega) (by decide))  ?_
        rw [nI_clamp (by omega), zup_zup]
        exact z_aret G dJ15_next_65 rfl rfl (zref_rf _) (hK0)
      · exact absurd ((not_congr <| nI_ltI (a := i) (b := 10) (by omega) (by omega)).mp c_39) (by omega)
    · exact absurd ((not_congr <| nI_ltI (a := i) (b := n) (by omega) (by omega)).mp c_17) (by omega)
def T_J2_iterator : List Value → Hp → (Res → Hp → Prop) → Prop := fun av g K => ∃ (a b n : Nat) (md : Int32), av = [.ref a] ∧ g a = some (alC md b n) ∧ (∀ t : Nat, g t = none → K (.inl (some (.ref t))) (zup g t (itC 0 (-1) md a)))
theorem C_J2_iterator {l : Launch} {s0 : State} (h0 : St0 l s0) : Ctr l s0 yJ2_iterator (ws_ yJ2_iterator cJ2_iterator 1 (Option.some (Jvm.ClassFile.FieldType.object "java/util/Iterator"))) 3 1 4 T_J2_iterator := by
  refine ctr_of h0 (by decide) ?_ ?_
  · rintro av g K ⟨a, b, n, md, rfl, hp0, hK0⟩
    exact Nat.le_of_ble_eq_true rfl
  · rintro Z X av g K G ⟨a, b, n, md, rfl, hp0, hK0⟩
    show Z 0 [some (.ref a)] [] _ _ _
    refine z_new G dJ2_iterator_0 rfl k_J15 q769 q770 q135 (fs := [.int 0, .int 0, .int 0, .null]) rfl (Nat.le_of_ble_eq_true rfl) (Nat.le_of_ble_eq_true rfl) (fun n0 hn0 => ?_)
    have hne : a ≠ n0 := fun e => by rw [← e, hp0] at hn0; cases hn0
    refine z_dup G dJ2_iterator_3 rfl rfl ?_
    refine z_aload_n G dJ2_iterator_4 rfl rfl rfl ?_
    refine z_I G dJ2_iterator_5 rfl m_J15_init q771 (C_J15_init h0) (by decide) (As := [_]) rfl rfl (Nat.le_of_ble_eq_true rfl) (Nat.zero_le _) (Nat.zero_le _) (⟨n0, a, b, n, md, rfl, zup_s _ _ _, (zup_n _ _ hne).trans hp0, hne, ?_⟩)
    rw [zup_zup]
    exact z_aret G dJ2_iterator_8 rfl rfl rfl (hK0 n0 hn0)
theorem pAL_c {s0 : State} {md : Int32} {n : Nat} {f : Nat → Nat} {g : Hp} {a : Nat} (h : pAL s0 md n f g a) : ∃ b, g a = some (alC md b n) := by
  rcases h.2 with ⟨rfl, h1⟩ | ⟨b, F, h1, -⟩
  · exact ⟨_, h1⟩
  · exact ⟨_, h1⟩
def T_al_size (s0 : State) : List Value → Hp → (Res → Hp → Prop) → Prop := fun av g K => ∃ (a n : Nat) (md : Int32) (f : Nat → Nat), av = [.ref a] ∧ g a = some (zbx 1 (pAL s0 md n f)) ∧ K (.inl (some (.int (nI n)))) g
theorem B_al_size {l : Launch} {s0 : State} (h0 : St0 l s0) : Ctr l s0 yJ2_size (ws_ yJ2_size cJ2_size 1 (Option.some Jvm.ClassFile.FieldType.int)) 1 0 0 (T_al_size s0) := by
  refine Ctr.mono (Ctr.foc (C_J2_size h0)) ?_
  rintro av g K ⟨a, n, md, f, rfl, ha, hK⟩
  refine ⟨a, 1, _, ha, fun g2 hp hw => ?_⟩
  obtain ⟨b, hb⟩ := pAL_c hp
  exact ⟨a, b, n, md, rfl, hb, _, hp, hw, by rw [zup_id ha]; exact hK⟩
def T_al_isEmpty (s0 : State) : List Value → Hp → (Res → Hp → Prop) → Prop := fun av g K => ∃ (a n : Nat) (md : Int32) (f : Nat → Nat), av = [.ref a] ∧ g a = some (zbx 1 (pAL s0 md n f)) ∧ K (.inl (some (.int (bI (decide (n = 0)))))) g
theorem B_al_isEmpty {l : Launch} {s0 : State} (h0 : St0 l s0) : Ctr l s0 yJ2_isEmpty (ws_ yJ2_isEmpty cJ2_isEmpty 1 (Option.some Jvm.ClassFile.FieldType.boolean)) 1 0 0 (T_al_isEmpty s0) := by
  refine Ctr.mono (Ctr.foc (C_J2_isEmpty h0)) ?_
  rintro av g K ⟨a, n, md, f, rfl, ha, hK⟩
  refine ⟨a, 1, _, ha, fun g2 hp hw => ?_⟩
  obtain ⟨b, hb⟩ := pAL_c hp
  have := hp.1
  exact ⟨a, b, n, md, rfl, hb, by omega, _, hp, hw, by rw [zup_id ha]; exact hK⟩
def T_al_get (s0 : State) : List Value → Hp → (Res → Hp → Prop) → Prop := fun av g K => ∃ (a n i : Nat) (md : Int32) (f : Nat → Nat), av = [.ref a, .int (nI i)] ∧ g a = some (zbx 1 (pAL s0 md n f)) ∧ i < n ∧ K (.inl (some (.ref (f i)))) g
theorem B_al_get {l : Launch} {s0 : State} (h0 : St0 l s0) : Ctr l s0 yJ2_get (ws_ yJ2_get cJ2_get 2 (Option.some (Jvm.ClassFile.FieldType.object "java/lang/Object"))) 3 0 0 (T_al_get s0) := by
  refine Ctr.mono (Ctr.foc (C_J2_get h0)) ?_
  rintro av g K ⟨a, n, i, md, f, rfl, ha, hi, hK⟩
  refine ⟨a, 1, _, ha, fun g2 hp hw => ?_⟩
  rcases hp.2 with ⟨rfl, h1⟩ | ⟨b, F, h1, h2, h3⟩
  · omega
  · refine ⟨a, b, n, i, 10, md, F, rfl, h1, h2, hi, hp.1, by decide, _, hp, hw, ?_⟩
    rw [zup_id ha, h3 i hi]
    exact hK
def T_al_iter (s0 : State) : List Value → Hp → (Res → Hp → Prop) → Prop := fun av g K => ∃ (a n : Nat) (md : Int32) (f : Nat → Nat), av = [.ref a] ∧ g a = some (zbx 1 (pAL s0 md n f)) ∧ ∀ t : Nat, g t = none → K (.inl (some (.ref t))) (zup g t (itC 0 (-1) md a))
theorem B_al_iter {l : Launch} {s0 : State} (h0 : St0 l s0) : Ctr l s0 yJ2_iterator (ws_ yJ2_iterator cJ2_iterator 1 (Option.some (Jvm.ClassFile.FieldType.object "java/util/Iterator"))) 3 1 4 (T_al_iter s0) := by
  refine Ctr.mono (Ctr.box (C_J2_iterator h0)) ?_
  rintro av g K ⟨a, n, md, f, rfl, ha, hK⟩
  refine ⟨a, 1, _, ha, fun g2 hp hw dj => ?_⟩
  obtain ⟨b, hb⟩ := pAL_c hp
  exact ⟨a, b, n, md, rfl, zov_in hb, fun t ht => tCl_n (k := K _) ha hp hw dj ht (fun h1 h2 => hK t h1)⟩
def T_al_hasNext (s0 : State) : List Value → Hp → (Res → Hp → Prop) → Prop := fun av g K => ∃ (t a i n : Nat) (lr md md2 : Int32) (f : Nat → Nat), av = [.ref t] ∧ g t = some (itC (nI i) lr md a) ∧ g a = some (zbx 1 (pAL s0 md2 n f)) ∧ i ≤ n ∧ K (.inl (some (.int (bI (decide (i ≠ n)))))) g
theorem B_al_hasNext {l : Launch} {s0 : State} (h0 : St0 l s0) : Ctr l s0 yJ15_hasNext (ws_ yJ15_hasNext cJ15_hasNext 1 (Option.some Jvm.ClassFile.FieldType.boolean)) 1 0 0 (T_al_hasNext s0) := by
  refine Ctr.mono (Ctr.box (C_J15_hasNext h0)) ?_
  rintro av g K ⟨t, a, i, n, lr, md, md2, f, rfl, ht, ha, hi, hK⟩
  refine ⟨a, 1, _, ha, fun g2 hp hw dj => ?_⟩
  obtain ⟨b, hb⟩ := pAL_c hp
  have hta : t ≠ a := fun e => by rw [e, ha] at ht; cases ht
  have := hp.1
  exact ⟨t, a, b, i, n, lr, md, md2, rfl, zov_o dj hta ht, zov_in hb, by omega, by omega, tCl_0 (k := K _) ha hp hw dj hK⟩
def T_al_next (s0 : State) : List Value → Hp → (Res → Hp → Prop) → Prop := fun av g K => ∃ (t a i n : Nat) (lr md : Int32) (f : Nat → Nat), av = [.ref t] ∧ g t = some (itC (nI i) lr md a) ∧ g a = some (zbx 1 (pAL s0 md n f)) ∧ i < n ∧ K (.inl (some (.ref (f i)))) (zup g t (itC (nI (i + 1)) (nI i) md a))
theorem B_al_next {l : Launch} {s0 : State} (h0 : St0 l s0) : Ctr l s0 yJ15_next (ws_ yJ15_next cJ15_next 3 (Option.some (Jvm.ClassFile.FieldType.object "java/lang/Object"))) 2 0 0 (T_al_next s0) := by
  refine Ctr.mono (Ctr.box (C_J15_next h0)) ?_
  rintro av g K ⟨t, a, i, n, lr, md, f, rfl, ht, ha, hi, hK⟩
  refine ⟨a, 1, _, ha, fun g2 hp hw dj => ?_⟩
  have hta : t ≠ a := fun e => by rw [e, ha] at ht; cases ht
  rcases hp.2 with ⟨rfl, h1⟩ | ⟨b, F, h1, h2, h3⟩
  · omega
  · refine ⟨t, a, b, i, n, lr, md, F, rfl, zov_o dj hta ht, zov_in h1, zov_in h2, hi, hp.1, ?_⟩
    rw [h3 i hi]
    exact tCl_o (k := K _) ha hp hw dj hta ht hK
