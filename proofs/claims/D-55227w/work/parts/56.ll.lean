/-! JDK: LinkedList -/
theorem nrf (C : String) (o : Option Nat) : narrow (.object C) (va_rf o) = va_rf o := by cases o <;> rfl
theorem frf (C : String) (o : Option Nat) : fits (.object C) (va_rf o) = true := by cases o <;> rfl
def llC (md : Int32) (n : Nat) (fs la : Option Nat) : AO := .inl (.inr (9, [.int md, .int (nI n), va_rf fs, va_rf la]))
def nodC (it nx pv : Option Nat) : AO := .inl (.inr (16, [va_rf it, va_rf nx, va_rf pv]))
def T_J1_init_9 : List Value → Hp → (Res → Hp → Prop) → Prop := fun av g K => ∃ (a : Nat) (md : Int32) (u v w : Value), av = [.ref a] ∧ g a = some (.inl (.inr (9, [.int md, u, v, w]))) ∧ K (.inl none) (zup g a (.inl (.inr (9, [.int 0, u, v, w]))))
theorem C_J1_init_9 {l : Launch} {s0 : State} (h0 : St0 l s0) : Ctr l s0 yJ1_init (ws_ yJ1_init cJ1_init 1 (Option.none : Option Jvm.ClassFile.FieldType)) 2 0 0 T_J1_init_9 := by
  refine ctr_of h0 (by decide) ?_ ?_
  · rintro av g K ⟨a, md, u, v, w, rfl, hp0, hK0⟩
    exact Nat.le_of_ble_eq_true rfl
  · rintro Z X av g K G ⟨a, md, u, v, w, rfl, hp0, hK0⟩
    show Z 0 [some (.ref a)] [] _ _ _
    refine z_aload_n G dJ1_init_0 rfl rfl rfl ?_
    refine z_I G dJ1_init_1 rfl m_J0_init q195 (C_J0_init h0) (by decide) (As := []) rfl rfl (Nat.le_of_ble_eq_true rfl) (Nat.zero_le _) (Nat.zero_le _) (⟨a, rfl, ?_⟩)
    refine z_aload_n G dJ1_init_4 rfl rfl rfl ?_
    refine z_iconst G dJ1_init_5 rfl (v := 0) (by decide) ?_
    refine z_put G dJ1_init_6 rfl (j := 0) fl_J1_7_9p hp0 rfl rfl (Nat.le_of_ble_eq_true rfl) ?_
    exact z_vret G dJ1_init_9 rfl (hK0)
def T_J3_init : List Value → Hp → (Res → Hp → Prop) → Prop := fun av g K => ∃ (a : Nat) (md : Int32) (u v w : Value), av = [.ref a] ∧ g a = some (.inl (.inr (9, [.int md, u, v, w]))) ∧ K (.inl none) (zup g a (.inl (.inr (9, [.int 0, u, v, w]))))
theorem C_J3_init {l : Launch} {s0 : State} (h0 : St0 l s0) : Ctr l s0 yJ3_init (ws_ yJ3_init cJ3_init 1 (Option.none : Option Jvm.ClassFile.FieldType)) 3 0 0 T_J3_init := by
  refine ctr_of h0 (by decide) ?_ ?_
  · rintro av g K ⟨a, md, u, v, w, rfl, hp0, hK0⟩
    exact Nat.le_of_ble_eq_true rfl
  · rintro Z X av g K G ⟨a, md, u, v, w, rfl, hp0, hK0⟩
    show Z 0 [some (.ref a)] [] _ _ _
    refine z_aload_n G dJ3_init_0 rfl rfl rfl ?_
    refine z_I G dJ3_init_1 rfl m_J1_init q228 (C_J1_init_9 h0) (by decide) (As := []) rfl rfl (Nat.le_of_ble_eq_true rfl) (Nat.zero_le _) (Nat.zero_le _) (⟨a, md, u, v, w, rfl, hp0, ?_⟩)
    exact z_vret G dJ3_init_4 rfl (hK0)
def T_J4_init : List Value → Hp → (Res → Hp → Prop) → Prop := fun av g K => ∃ (a : Nat), av = [.ref a] ∧ g a = some (.inl (.inr (9, [.int 0, .int 0, .null, .null]))) ∧ K (.inl none) (zup g a (llC 0 0 none none))
theorem C_J4_init {l : Launch} {s0 : State} (h0 : St0 l s0) : Ctr l s0 yJ4_init (ws_ yJ4_init cJ4_init 1 (Option.none : Option Jvm.ClassFile.FieldType)) 4 0 0 T_J4_init := by
  refine ctr_of h0 (by decide) ?_ ?_
  · rintro av g K ⟨a, rfl, hp0, hK0⟩
    exact Nat.le_of_ble_eq_true rfl
  · rintro Z X av g K G ⟨a, rfl, hp0, hK0⟩
    show Z 0 [some (.ref a)] [] _ _ _
    refine z_aload_n G dJ4_init_0 rfl rfl rfl ?_
    refine z_I G dJ4_init_1 rfl m_J3_init q225 (C_J3_init h0) (by decide) (As := []) rfl rfl (Nat.le_of_ble_eq_true rfl) (Nat.zero_le _) (Nat.zero_le _) (⟨a, 0, .int 0, .null, .null, rfl, hp0, ?_⟩)
    refine z_aload_n G dJ4_init_4 rfl rfl rfl ?_
    refine z_iconst G dJ4_init_5 rfl (v := 0) (by decide) ?_
    refine z_put G dJ4_init_6 rfl (j := 1) fl_J4_7_9p (zup_s _ _ _) rfl rfl (Nat.le_of_ble_eq_true rfl) ?_
    exact z_vret G dJ4_init_9 rfl (by rw [zup_zup]; exact hK0)
def T_J30_init : List Value → Hp → (Res → Hp → Prop) → Prop := fun av g K => ∃ (t x : Nat) (nx pv : Option Nat), av = [.ref t, va_rf pv, .ref x, va_rf nx] ∧ g t = some (nodC none none none) ∧ K (.inl none) (zup g t (nodC (some x) nx pv))
theorem C_J30_init {l : Launch} {s0 : State} (h0 : St0 l s0) : Ctr l s0 yJ30_init (ws_ yJ30_init cJ30_init 4 (Option.none : Option Jvm.ClassFile.FieldType)) 1 0 0 T_J30_init := by
  refine ctr_of h0 (by decide) ?_ ?_
  · rintro av g K ⟨t, x, nx, pv, rfl, hp0, hK0⟩
    cases pv <;> cases nx <;> exact Nat.le_of_ble_eq_true rfl
  · rintro Z X av g K G ⟨t, x, nx, pv, rfl, hp0, hK0⟩
    rw [show zent [.ref t, va_rf pv, .ref x, va_rf nx] 4 = [some (.ref t), some (va_rf pv), some (.ref x), some (va_rf nx)] from by cases pv <;> cases nx <;> rfl]
    show Z 0 [some (.ref t), some (va_rf pv), some (.ref x), some (va_rf nx)] [] _ _ _
    refine z_aload_n G dJ30_init_0 rfl rfl rfl ?_
    refine z_objInit G dJ30_init_1 rfl q1199 (by decide) (Nat.le_of_ble_eq_true rfl) ?_
    refine z_aload_n G dJ30_init_4 rfl rfl rfl ?_
    refine z_aload_n G dJ30_init_5 rfl rfl rfl ?_
    refine z_put G dJ30_init_6 rfl (j := 0) fl_J30_7_16p hp0 rfl rfl (Nat.le_of_ble_eq_true rfl) ?_
    refine z_aload_n G dJ30_init_9 rfl rfl rfl ?_
    refine z_aloadv_n G dJ30_init_10 rfl (i := 3) rfl rfl (zref_rf _) ?_
    refine z_put G dJ30_init_11 rfl (j := 1) fl_J30_13_16p (zup_s _ _ _) (nrf _ _) (frf _ _) (Nat.le_of_ble_eq_true rfl) ?_
    refine z_aload_n G dJ30_init_14 rfl rfl rfl ?_
    refine z_aloadv_n G dJ30_init_15 rfl (i := 1) rfl rfl (zref_rf _) ?_
    refine z_put G dJ30_init_16 rfl (j := 2) fl_J30_17_16p (zup_s _ _ _) (nrf _ _) (frf _ _) (Nat.le_of_ble_eq_true rfl) ?_
    exact z_vret G dJ30_init_19 rfl (by rw [zup_zup, zup_zup]; exact hK0)
def T_J4_size : List Value → Hp → (Res → Hp → Prop) → Prop := fun av g K => ∃ (a n : Nat) (md : Int32) (fs la : Option Nat), av = [.ref a] ∧ g a = some (llC md n fs la) ∧ K (.inl (some (.int (nI n)))) g
theorem C_J4_size {l : Launch} {s0 : State} (h0 : St0 l s0) : Ctr l s0 yJ4_size (ws_ yJ4_size cJ4_size 1 (Option.some Jvm.ClassFile.FieldType.int)) 1 0 0 T_J4_size := by
  refine ctr_of h0 (by decide) ?_ ?_
  · rintro av g K ⟨a, n, md, fs, la, rfl, hp0, hK0⟩
    exact Nat.le_of_ble_eq_true rfl
  · rintro Z X av g K G ⟨a, n, md, fs, la, rfl, hp0, hK0⟩
    show Z 0 [some (.ref a)] [] _ _ _
    refine z_aload_n G dJ4_size_0 rfl rfl rfl ?_
    refine z_get G dJ4_size_1 rfl (j := 1) fl_J4_7_9 (by assumption) rfl ?_
    exact z_iret G dJ4_size_4 rfl rfl (hK0)
def T_J0_isEmpty_9 : List Value → Hp → (Res → Hp → Prop) → Prop := fun av g K => ∃ (a n : Nat) (md : Int32) (fs la : Option Nat), av = [.ref a] ∧ g a = some (llC md n fs la) ∧ n < 2 ^ 31 ∧ K (.inl (some (.int (bI (decide (n = 0)))))) g
theorem C_J0_isEmpty_9 {l : Launch} {s0 : State} (h0 : St0 l s0) : Ctr l s0 yJ0_isEmpty (ws_ yJ0_isEmpty cJ0_isEmpty 1 (Option.some Jvm.ClassFile.FieldType.boolean)) 2 0 0 T_J0_isEmpty_9 := by
  refine ctr_of h0 (by decide) ?_ ?_
  · rintro av g K ⟨a, n, md, fs, la, rfl, hp0, hp1, hK0⟩
    exact Nat.le_of_ble_eq_true rfl
  · rintro Z X av g K G ⟨a, n, md, fs, la, rfl, hp0, hp1, hK0⟩
    show Z 0 [some (.ref a)] [] _ _ _
    refine z_aload_n G dJ0_isEmpty_0 rfl rfl rfl ?_
    refine z_A G dJ0_isEmpty_1 rfl a_J4_AbstractCollection_size q1315 (C_J4_size h0) (by decide) (As := []) rfl rfl (Nat.le_of_ble_eq_true rfl) (Nat.zero_le _) (Nat.zero_le _) (zhas_K hp0 (zisK_raw _ _) k_J4) (⟨a, n, md, fs, la, rfl, hp0, ?_⟩)
    refine z_if_ne G dJ0_isEmpty_4 rfl (tgt := 11) (by decide) (fun c_4 => ?_) (fun c_4 => ?_)
    · have e := fun h => c_4 ((nI_eq (b := 0) hp1 (by decide)).mpr h)
      refine z_iconst G dJ0_isEmpty_11 rfl (v := 0) (by decide) ?_
      exact z_iret G dJ0_isEmpty_12 rfl rfl (by first | (rw [decide_eq_true e] at hK0; exact hK0) | (rw [decide_eq_false e] at hK0; exact hK0))
    · have e := (nI_eq (b := 0) hp1 (by decide)).mp c_4
      refine z_iconst G dJ0_isEmpty_7 rfl (v := 1) (by decide) ?_
      refine z_goto G dJ0_isEmpty_8 (tgt := 12) (by decide) ?_
      exact z_iret G dJ0_isEmpty_12 rfl rfl (by first | (rw [decide_eq_true e] at hK0; exact hK0) | (rw [decide_eq_false e] at hK0; exact hK0))
def T_J4_linkLast : List Value → Hp → (Res → Hp → Prop) → Prop := fun av g K => ∃ (a n x l0 : Nat) (md : Int32) (fs y pv : Option Nat), av = [.ref a, .ref x] ∧ g a = some (llC md n fs (some l0)) ∧ g l0 = some (nodC y none pv) ∧ (∀ (t : Nat) (h : Hp), g t = none → h a = some (llC (md + 1) (n + 1) fs (some t)) → h t = some (nodC (some x) none (some l0)) → h l0 = some (nodC y (some t) pv) → (∀ q, q ≠ a → q ≠ t → q ≠ l0 → h q = g q) → K (.inl none) h)
theorem C_J4_linkLast {l : Launch} {s0 : State} (h0 : St0 l s0) : Ctr l s0 yJ4_linkLast (ws_ yJ4_linkLast cJ4_linkLast 4 (Option.none : Option Jvm.ClassFile.FieldType)) 2 1 3 T_J4_linkLast := by
  refine ctr_of h0 (by decide) ?_ ?_
  · rintro av g K ⟨a, n, x, l0, md, fs, y, pv, rfl, hp0, hp1, hK0⟩
    exact Nat.le_of_ble_eq_true rfl
  · rintro Z X av g K G ⟨a, n, x, l0, md, fs, y, pv, rfl, hp0, hp1, hK0⟩
    show Z 0 [some (.ref a), some (.ref x), none, none] [] _ _ _
    refine z_aload_n G dJ4_linkLast_0 rfl rfl rfl ?_
    refine z_get G dJ4_linkLast_1 rfl (j := 3) fl_J4_27_9 hp0 rfl ?_
    refine z_astore_n G dJ4_linkLast_4 rfl (i := 2) rfl rfl (by decide) (zcat_s rfl) (show Z 5 [_, _, _, _] _ _ _ _ from ?_)
    refine z_new G dJ4_linkLast_5 rfl k_J30 q1194 q1195 q153 (fs := [.null, .null, .null]) rfl (Nat.le_of_ble_eq_true rfl) (Nat.le_of_ble_eq_true rfl) (fun n5 hn5 => ?_)
    have ha : a ≠ n5 := fun e => by rw [← e, hp0] at hn5; cases hn5
    have hl : l0 ≠ n5 := fun e => by rw [← e, hp1] at hn5; cases hn5
    have hal : a ≠ l0 := fun e => by rw [e, hp1] at hp0; cases hp0
    refine z_dup G dJ4_linkLast_8 rfl rfl ?_
    refine z_aload_n G dJ4_linkLast_9 rfl rfl rfl ?_
    refine z_aload_n G dJ4_linkLast_10 rfl rfl rfl ?_
    refine z_null G dJ4_linkLast_11 rfl ?_
    refine z_I G dJ4_linkLast_12 rfl m_J30_init q1196 (C_J30_init h0) (by decide) (As := [_, _, _]) rfl rfl (Nat.le_of_ble_eq_true rfl) (Nat.zero_le _) (Nat.zero_le _) (⟨n5, x, none, some l0, rfl, zup_s _ _ _, ?_⟩)
    rw [zup_zup]
    refine z_astore_n G dJ4_linkLast_15 rfl (i := 3) rfl rfl (by decide) (zcat_s rfl) (show Z 16 [_, _, _, _] _ _ _ _ from ?_)
    refine z_aload_n G dJ4_linkLast_16 rfl rfl rfl ?_
    refine z_aload_n G dJ4_linkLast_17 rfl rfl rfl ?_
    refine z_put G dJ4_linkLast_18 rfl (j := 3) fl_J4_27_9p ((zup_n _ _ ha).trans hp0) rfl rfl (Nat.le_of_ble_eq_true rfl) ?_
    refine z_aload_n G dJ4_linkLast_21 rfl rfl rfl ?_
    refine z_ifnonnull G dJ4_linkLast_22 (tgt := 33) (by decide) ?_
    refine z_aload_n G dJ4_linkLast_33 rfl rfl rfl ?_
    refine z_aload_n G dJ4_linkLast_34 rfl rfl rfl ?_
    refine z_put G dJ4_linkLast_35 rfl (j := 1) fl_J4_36_16p ((zup_n _ _ hal.symm).trans ((zup_n _ _ hl).trans hp1)) rfl rfl (Nat.le_of_ble_eq_true rfl) ?_
    refine z_aload_n G dJ4_linkLast_38 rfl rfl rfl ?_
    refine z_dup G dJ4_linkLast_39 rfl rfl ?_
    refine z_get G dJ4_linkLast_40 rfl (j := 1) fl_J4_7_9 ((zup_n _ _ hal).trans (zup_s _ _ _)) rfl ?_
    refine z_iconst G dJ4_linkLast_43 rfl (v := 1) (by decide) ?_
    refine z_iadd G dJ4_linkLast_44 rfl ?_
    refine z_put G dJ4_linkLast_45 rfl (j := 1) fl_J4_7_9p ((zup_n _ _ hal).trans (zup_s _ _ _)) rfl rfl (Nat.le_of_ble_eq_true rfl) ?_
    refine z_aload_n G dJ4_linkLast_48 rfl rfl rfl ?_
    refine z_dup G dJ4_linkLast_49 rfl rfl ?_
    refine z_get G dJ4_linkLast_50 rfl (j := 0) fl_J4_33_9 (zup_s _ _ _) rfl ?_
    refine z_iconst G dJ4_linkLast_53 rfl (v := 1) (by decide) ?_
    refine z_iadd G dJ4_linkLast_54 rfl ?_
    refine z_put G dJ4_linkLast_55 rfl (j := 0) fl_J4_33_9p (zup_s _ _ _) rfl rfl (Nat.le_of_ble_eq_true rfl) ?_
    exact z_vret G dJ4_linkLast_58 rfl (hK0 n5 _ hn5 ((zup_s _ _ _).trans (by unfold llC; rw [nI_succ]; rfl)) (by simp [zup, ha.symm, hl.symm]) (by simp [zup, hal.symm, hl]; exact rfl) (fun q h1 h2 h3 => by simp [zup, h1, h2, h3]))
def T_J4_linkLast_e : List Value → Hp → (Res → Hp → Prop) → Prop := fun av g K => ∃ (a x : Nat) (md : Int32), av = [.ref a, .ref x] ∧ g a = some (llC md 0 none none) ∧ (∀ (t : Nat) (h : Hp), g t = none → h a = some (llC (md + 1) 1 (some t) (some t)) → h t = some (nodC (some x) none none) → (∀ q, q ≠ a → q ≠ t → h q = g q) → K (.inl none) h)
theorem C_J4_linkLast_e {l : Launch} {s0 : State} (h0 : St0 l s0) : Ctr l s0 yJ4_linkLast (ws_ yJ4_linkLast cJ4_linkLast 4 (Option.none : Option Jvm.ClassFile.FieldType)) 2 1 3 T_J4_linkLast_e := by
  refine ctr_of h0 (by decide) ?_ ?_
  · rintro av g K ⟨a, x, md, rfl, hp0, hK0⟩
    exact Nat.le_of_ble_eq_true rfl
  · rintro Z X av g K G ⟨a, x, md, rfl, hp0, hK0⟩
    show Z 0 [some (.ref a), some (.ref x), none, none] [] _ _ _
    refine z_aload_n G dJ4_linkLast_0 rfl rfl rfl ?_
    refine z_get G dJ4_linkLast_1 rfl (j := 3) fl_J4_27_9 hp0 rfl ?_
    refine z_astore_n G dJ4_linkLast_4 rfl (i := 2) rfl rfl (by decide) (zcat_s rfl) (show Z 5 [_, _, _, _] _ _ _ _ from ?_)
    refine z_new G dJ4_linkLast_5 rfl k_J30 q1194 q1195 q153 (fs := [.null, .null, .null]) rfl (Nat.le_of_ble_eq_true rfl) (Nat.le_of_ble_eq_true rfl) (fun n5 hn5 => ?_)
    have ha : a ≠ n5 := fun e => by rw [← e, hp0] at hn5; cases hn5
    refine z_dup G dJ4_linkLast_8 rfl rfl ?_
    refine z_aload_nN G dJ4_linkLast_9 rfl rfl rfl ?_
    refine z_aload_n G dJ4_linkLast_10 rfl rfl rfl ?_
    refine z_null G dJ4_linkLast_11 rfl ?_
    refine z_I G dJ4_linkLast_12 rfl m_J30_init q1196 (C_J30_init h0) (by decide) (As := [_, _, _]) rfl rfl (Nat.le_of_ble_eq_true rfl) (Nat.zero_le _) (Nat.zero_le _) (⟨n5, x, none, none, rfl, zup_s _ _ _, ?_⟩)
    rw [zup_zup]
    refine z_astore_n G dJ4_linkLast_15 rfl (i := 3) rfl rfl (by decide) (zcat_s rfl) (show Z 16 [_, _, _, _] _ _ _ _ from ?_)
    refine z_aload_n G dJ4_linkLast_16 rfl rfl rfl ?_
    refine z_aload_n G dJ4_linkLast_17 rfl rfl rfl ?_
    refine z_put G dJ4_linkLast_18 rfl (j := 3) fl_J4_27_9p ((zup_n _ _ ha).trans hp0) rfl rfl (Nat.le_of_ble_eq_true rfl) ?_
    refine z_aload_nN G dJ4_linkLast_21 rfl rfl rfl ?_
    refine z_ifnonnullN G dJ4_linkLast_22 rfl ?_
    refine z_aload_n G dJ4_linkLast_25 rfl rfl rfl ?_
    refine z_aload_n G dJ4_linkLast_26 rfl rfl rfl ?_
    refine z_put G dJ4_linkLast_27 rfl (j := 2) fl_J4_18_9p (zup_s _ _ _) rfl rfl (Nat.le_of_ble_eq_true rfl) ?_
    refine z_goto G dJ4_linkLast_30 (tgt := 38) (by decide) ?_
    refine z_aload_n G dJ4_linkLast_38 rfl rfl rfl ?_
    refine z_dup G dJ4_linkLast_39 rfl rfl ?_
    refine z_get G dJ4_linkLast_40 rfl (j := 1) fl_J4_7_9 (zup_s _ _ _) rfl ?_
    refine z_iconst G dJ4_linkLast_43 rfl (v := 1) (by decide) ?_
    refine z_iadd G dJ4_linkLast_44 rfl ?_
    refine z_put G dJ4_linkLast_45 rfl (j := 1) fl_J4_7_9p (zup_s _ _ _) rfl rfl (Nat.le_of_ble_eq_true rfl) ?_
    refine z_aload_n G dJ4_linkLast_48 rfl rfl rfl ?_
    refine z_dup G dJ4_linkLast_49 rfl rfl ?_
    refine z_get G dJ4_linkLast_50 rfl (j := 0) fl_J4_33_9 (zup_s _ _ _) rfl ?_
    refine z_iconst G dJ4_linkLast_53 rfl (v := 1) (by decide) ?_
    refine z_iadd G dJ4_linkLast_54 rfl ?_
    refine z_put G dJ4_linkLast_55 rfl (j := 0) fl_J4_33_9p (zup_s _ _ _) rfl rfl (Nat.le_of_ble_eq_true rfl) ?_
    exact z_vret G dJ4_linkLast_58 rfl (hK0 n5 _ hn5 ((zup_s _ _ _).trans rfl) (by simp [zup, ha.symm]) (fun q h1 h2 => by simp [zup, h1, h2]))
def T_J4_unlinkFirst : List Value → Hp → (Res → Hp → Prop) → Prop := fun av g K => ∃ (a n t0 x t1 : Nat) (md : Int32) (la pv y nx pv1 : Option Nat), av = [.ref a, .ref t0] ∧ g a = some (llC md (n + 1) (some t0) la) ∧ g t0 = some (nodC (some x) (some t1) pv) ∧ g t1 = some (nodC y nx pv1) ∧ t0 ≠ t1 ∧ (∀ h : Hp, h a = some (llC (md + 1) n (some t1) la) → h t1 = some (nodC y nx none) → (∀ q, q ≠ a → q ≠ t0 → q ≠ t1 → h q = g q) → K (.inl (some (.ref x))) h)
theorem C_J4_unlinkFirst {l : Launch} {s0 : State} (h0 : St0 l s0) : Ctr l s0 yJ4_unlinkFirst (ws_ yJ4_unlinkFirst cJ4_unlinkFirst 4 (Option.some (Jvm.ClassFile.FieldType.object "java/lang/Object"))) 1 0 0 T_J4_unlinkFirst := by
  refine ctr_of h0 (by decide) ?_ ?_
  · rintro av g K ⟨a, n, t0, x, t1, md, la, pv, y, nx, pv1, rfl, hp0, hp1, hp2, hp3, hK0⟩
    exact Nat.le_of_ble_eq_true rfl
  · rintro Z X av g K G ⟨a, n, t0, x, t1, md, la, pv, y, nx, pv1, rfl, hp0, hp1, hp2, hp3, hK0⟩
    show Z 0 [some (.ref a), some (.ref t0), none, none] [] _ _ _
    have h01 : a ≠ t0 := fun e => by rw [e, hp1] at hp0; cases hp0
    have h02 : a ≠ t1 := fun e => by rw [e, hp2] at hp0; cases hp0
    refine z_aload_n G dJ4_unlinkFirst_0 rfl rfl rfl ?_
    refine z_get G dJ4_unlinkFirst_1 rfl (j := 0) fl_J4_39_16 hp1 rfl ?_
    refine z_astore_n G dJ4_unlinkFirst_4 rfl (i := 2) rfl rfl (by decide) (zcat_s rfl) (show Z 5 [_, _, _, _] _ _ _ _ from ?_)
    refine z_aload_n G dJ4_unlinkFirst_5 rfl rfl rfl ?_
    refine z_get G dJ4_unlinkFirst_6 rfl (j := 1) fl_J4_36_16 hp1 rfl ?_
    refine z_astore_n G dJ4_unlinkFirst_9 rfl (i := 3) rfl rfl (by decide) (zcat_s rfl) (show Z 10 [_, _, _, _] _ _ _ _ from ?_)
    refine z_aload_n G dJ4_unlinkFirst_10 rfl rfl rfl ?_
    refine z_null G dJ4_unlinkFirst_11 rfl ?_
    refine z_put G dJ4_unlinkFirst_12 rfl (j := 0) fl_J4_39_16p hp1 rfl rfl (Nat.le_of_ble_eq_true rfl) ?_
    refine z_aload_n G dJ4_unlinkFirst_15 rfl rfl rfl ?_
    refine z_null G dJ4_unlinkFirst_16 rfl ?_
    refine z_put G dJ4_unlinkFirst_17 rfl (j := 1) fl_J4_36_16p (zup_s _ _ _) rfl rfl (Nat.le_of_ble_eq_true rfl) ?_
    refine z_aload_n G dJ4_unlinkFirst_20 rfl rfl rfl ?_
    refine z_aload_n G dJ4_unlinkFirst_21 rfl rfl rfl ?_
    refine z_put G dJ4_unlinkFirst_22 rfl (j := 2) fl_J4_18_9p ((zup_n _ _ h01).trans ((zup_n _ _ h01).trans hp0)) rfl rfl (Nat.le_of_ble_eq_true rfl) ?_
    refine z_aload_n G dJ4_unlinkFirst_25 rfl rfl rfl ?_
    refine z_ifnonnull G dJ4_unlinkFirst_26 (tgt := 37) (by decide) ?_
    refine z_aload_n G dJ4_unlinkFirst_37 rfl rfl rfl ?_
    refine z_null G dJ4_unlinkFirst_38 rfl ?_
    refine z_put G dJ4_unlinkFirst_39 rfl (j := 2) fl_J4_30_16p ((zup_n _ _ h02.symm).trans ((zup_n _ _ hp3.symm).trans ((zup_n _ _ hp3.symm).trans hp2))) rfl rfl (Nat.le_of_ble_eq_true rfl) ?_
    refine z_aload_n G dJ4_unlinkFirst_42 rfl rfl rfl ?_
    refine z_dup G dJ4_unlinkFirst_43 rfl rfl ?_
    refine z_get G dJ4_unlinkFirst_44 rfl (j := 1) fl_J4_7_9 ((zup_n _ _ h02).trans (zup_s _ _ _)) rfl ?_
    refine z_iconst G dJ4_unlinkFirst_47 rfl (v := 1) (by decide) ?_
    refine z_isub G dJ4_unlinkFirst_48 rfl ?_
    refine z_put G dJ4_unlinkFirst_49 rfl (j := 1) fl_J4_7_9p ((zup_n _ _ h02).trans (zup_s _ _ _)) rfl rfl (Nat.le_of_ble_eq_true rfl) ?_
    refine z_aload_n G dJ4_unlinkFirst_52 rfl rfl rfl ?_
    refine z_dup G dJ4_unlinkFirst_53 rfl rfl ?_
    refine z_get G dJ4_unlinkFirst_54 rfl (j := 0) fl_J4_33_9 (zup_s _ _ _) rfl ?_
    refine z_iconst G dJ4_unlinkFirst_57 rfl (v := 1) (by decide) ?_
    refine z_iadd G dJ4_unlinkFirst_58 rfl ?_
    refine z_put G dJ4_unlinkFirst_59 rfl (j := 0) fl_J4_33_9p (zup_s _ _ _) rfl rfl (Nat.le_of_ble_eq_true rfl) ?_
    refine z_aload_n G dJ4_unlinkFirst_62 rfl rfl rfl ?_
    exact z_aret G dJ4_unlinkFirst_63 rfl rfl rfl (hK0 _ ((zup_s _ _ _).trans (by unfold llC; rw [nI_pred]; rfl)) (by simp [zup, h02.symm, hp3.symm]; exact rfl) (fun q h1 h2 h3 => by simp [zup, h1, h2, h3]))
def T_J4_unlinkFirst_e : List Value → Hp → (Res → Hp → Prop) → Prop := fun av g K => ∃ (a n t0 x : Nat) (md : Int32) (la pv : Option Nat), av = [.ref a, .ref t0] ∧ g a = some (llC md (n + 1) (some t0) la) ∧ g t0 = some (nodC (some x) none pv) ∧ (∀ h : Hp, h a = some (llC (md + 1) n none none) → (∀ q, q ≠ a → q ≠ t0 → h q = g q) → K (.inl (some (.ref x))) h)
theorem C_J4_unlinkFirst_e {l : Launch} {s0 : State} (h0 : St0 l s0) : Ctr l s0 yJ4_unlinkFirst (ws_ yJ4_unlinkFirst cJ4_unlinkFirst 4 (Option.some (Jvm.ClassFile.FieldType.object "java/lang/Object"))) 1 0 0 T_J4_unlinkFirst_e := by
  refine ctr_of h0 (by decide) ?_ ?_
  · rintro av g K ⟨a, n, t0, x, md, la, pv, rfl, hp0, hp1, hK0⟩
    exact Nat.le_of_ble_eq_true rfl
  · rintro Z X av g K G ⟨a, n, t0, x, md, la, pv, rfl, hp0, hp1, hK0⟩
    show Z 0 [some (.ref a), some (.ref t0), none, none] [] _ _ _
    have h01 : a ≠ t0 := fun e => by rw [e, hp1] at hp0; cases hp0
    refine z_aload_n G dJ4_unlinkFirst_0 rfl rfl rfl ?_
    refine z_get G dJ4_unlinkFirst_1 rfl (j := 0) fl_J4_39_16 hp1 rfl ?_
    refine z_astore_n G dJ4_unlinkFirst_4 rfl (i := 2) rfl rfl (by decide) (zcat_s rfl) (show Z 5 [_, _, _, _] _ _ _ _ from ?_)
    refine z_aload_n G dJ4_unlinkFirst_5 rfl rfl rfl ?_
    refine z_get G dJ4_unlinkFirst_6 rfl (j := 1) fl_J4_36_16 hp1 rfl ?_
    refine z_astore_n G dJ4_unlinkFirst_9 rfl (i := 3) rfl rfl (by decide) (zcat_s rfl) (show Z 10 [_, _, _, _] _ _ _ _ from ?_)
    refine z_aload_n G dJ4_unlinkFirst_10 rfl rfl rfl ?_
    refine z_null G dJ4_unlinkFirst_11 rfl ?_
    refine z_put G dJ4_unlinkFirst_12 rfl (j := 0) fl_J4_39_16p hp1 rfl rfl (Nat.le_of_ble_eq_true rfl) ?_
    refine z_aload_n G dJ4_unlinkFirst_15 rfl rfl rfl ?_
    refine z_null G dJ4_unlinkFirst_16 rfl ?_
    refine z_put G dJ4_unlinkFirst_17 rfl (j := 1) fl_J4_36_16p (zup_s _ _ _) rfl rfl (Nat.le_of_ble_eq_true rfl) ?_
    refine z_aload_n G dJ4_unlinkFirst_20 rfl rfl rfl ?_
    refine z_aload_nN G dJ4_unlinkFirst_21 rfl rfl rfl ?_
    refine z_put G dJ4_unlinkFirst_22 rfl (j := 2) fl_J4_18_9p ((zup_n _ _ h01).trans ((zup_n _ _ h01).trans hp0)) rfl rfl (Nat.le_of_ble_eq_true rfl) ?_
    refine z_aload_nN G dJ4_unlinkFirst_25 rfl rfl rfl ?_
    refine z_ifnonnullN G dJ4_unlinkFirst_26 rfl ?_
    refine z_aload_n G dJ4_unlinkFirst_29 rfl rfl rfl ?_
    refine z_null G dJ4_unlinkFirst_30 rfl ?_
    refine z_put G dJ4_unlinkFirst_31 rfl (j := 3) fl_J4_27_9p (zup_s _ _ _) rfl rfl (Nat.le_of_ble_eq_true rfl) ?_
    refine z_goto G dJ4_unlinkFirst_34 (tgt := 42) (by decide) ?_
    refine z_aload_n G dJ4_unlinkFirst_42 rfl rfl rfl ?_
    refine z_dup G dJ4_unlinkFirst_43 rfl rfl ?_
    refine z_get G dJ4_unlinkFirst_44 rfl (j := 1) fl_J4_7_9 (zup_s _ _ _) rfl ?_
    refine z_iconst G dJ4_unlinkFirst_47 rfl (v := 1) (by decide) ?_
    refine z_isub G dJ4_unlinkFirst_48 rfl ?_
    refine z_put G dJ4_unlinkFirst_49 rfl (j := 1) fl_J4_7_9p (zup_s _ _ _) rfl rfl (Nat.le_of_ble_eq_true rfl) ?_
    refine z_aload_n G dJ4_unlinkFirst_52 rfl rfl rfl ?_
    refine z_dup G dJ4_unlinkFirst_53 rfl rfl ?_
    refine z_get G dJ4_unlinkFirst_54 rfl (j := 0) fl_J4_33_9 (zup_s _ _ _) rfl ?_
    refine z_iconst G dJ4_unlinkFirst_57 rfl (v := 1) (by decide) ?_
    refine z_iadd G dJ4_unlinkFirst_58 rfl ?_
    refine z_put G dJ4_unlinkFirst_59 rfl (j := 0) fl_J4_33_9p (zup_s _ _ _) rfl rfl (Nat.le_of_ble_eq_true rfl) ?_
    refine z_aload_n G dJ4_unlinkFirst_62 rfl rfl rfl ?_
    exact z_aret G dJ4_unlinkFirst_63 rfl rfl rfl (hK0 _ ((zup_s _ _ _).trans (by unfold llC; rw [nI_pred]; rfl)) (fun q h1 h2 => by simp [zup, h1, h2]))
def T_J4_linkBefore : List Value → Hp → (Res → Hp → Prop) → Prop := fun av g K => ∃ (a n x p s : Nat) (md : Int32) (fs la y nx pv1 z nx2 : Option Nat), av = [.ref a, .ref x, .ref s] ∧ g a = some (llC md n fs la) ∧ g s = some (nodC y nx (some p)) ∧ g p = some (nodC z nx2 pv1) ∧ p ≠ s ∧ (∀ (t : Nat) (h : Hp), g t = none → h a = some (llC (md + 1) (n + 1) fs la) → h t = some (nodC (some x) (some s) (some p)) → h s = some (nodC y nx (some t)) → h p = some (nodC z (some t) pv1) → (∀ q, q ≠ a → q ≠ t → q ≠ s → q ≠ p → h q = g q) → K (.inl none) h)
theorem C_J4_linkBefore {l : Launch} {s0 : State} (h0 : St0 l s0) : Ctr l s0 yJ4_linkBefore (ws_ yJ4_linkBefore cJ4_linkBefore 5 (Option.none : Option Jvm.ClassFile.FieldType)) 2 1 3 T_J4_linkBefore := by
  refine ctr_of h0 (by decide) ?_ ?_
  · rintro av g K ⟨a, n, x, p, s, md, fs, la, y, nx, pv1, z, nx2, rfl, hp0, hp1, hp2, hp3, hK0⟩
    exact Nat.le_of_ble_eq_true rfl
  · rintro Z X av g K G ⟨a, n, x, p, s, md, fs, la, y, nx, pv1, z, nx2, rfl, hp0, hp1, hp2, hp3, hK0⟩
    show Z 0 [some (.ref a), some (.ref x), some (.ref s), none, none] [] _ _ _
    have has : a ≠ s := fun e => by rw [e, hp1] at hp0; cases hp0
    have hap : a ≠ p := fun e => by rw [e, hp2] at hp0; cases hp0
    refine z_aload_n G dJ4_linkBefore_0 rfl rfl rfl ?_
    refine z_get G dJ4_linkBefore_1 rfl (j := 2) fl_J4_30_16 hp1 rfl ?_
    refine z_astore_n G dJ4_linkBefore_4 rfl (i := 3) rfl rfl (by decide) (zcat_s rfl) (show Z 5 [_, _, _, _, _] _ _ _ _ from ?_)
    refine z_new G dJ4_linkBefore_5 rfl k_J30 q1194 q1195 q153 (fs := [.null, .null, .null]) rfl (Nat.le_of_ble_eq_true rfl) (Nat.le_of_ble_eq_true rfl) (fun n5 hn5 => ?_)
    have ha : a ≠ n5 := fun e => by rw [← e, hp0] at hn5; cases hn5
    have hs : s ≠ n5 := fun e => by rw [← e, hp1] at hn5; cases hn5
    have hpt : p ≠ n5 := fun e => by rw [← e, hp2] at hn5; cases hn5
    refine z_dup G dJ4_linkBefore_8 rfl rfl ?_
    refine z_aload_n G dJ4_linkBefore_9 rfl rfl rfl ?_
    refine z_aload_n G dJ4_linkBefore_10 rfl rfl rfl ?_
    refine z_aload_n G dJ4_linkBefore_11 rfl rfl rfl ?_
    refine z_I G dJ4_linkBefore_12 rfl m_J30_init q1196 (C_J30_init h0) (by decide) (As := [_, _, _]) rfl rfl (Nat.le_of_ble_eq_true rfl) (Nat.zero_le _) (Nat.zero_le _) (⟨n5, x, some s, some p, rfl, zup_s _ _ _, ?_⟩)
    rw [zup_zup]
    refine z_astore G dJ4_linkBefore_15 rfl (i := 4) rfl (by decide) (zcat_s rfl) (show Z 17 [_, _, _, _, _] _ _ _ _ from ?_)
    refine z_aload_n G dJ4_linkBefore_17 rfl rfl rfl ?_
    refine z_aload G dJ4_linkBefore_18 rfl rfl ?_
    refine z_put G dJ4_linkBefore_20 rfl (j := 2) fl_J4_30_16p ((zup_n _ _ hs).trans hp1) rfl rfl (Nat.le_of_ble_eq_true rfl) ?_
    refine z_aload_n G dJ4_linkBefore_23 rfl rfl rfl ?_
    refine z_ifnonnull G dJ4_linkBefore_24 (tgt := 36) (by decide) ?_
    refine z_aload_n G dJ4_linkBefore_36 rfl rfl rfl ?_
    refine z_aload G dJ4_linkBefore_37 rfl rfl ?_
    refine z_put G dJ4_linkBefore_39 rfl (j := 1) fl_J4_36_16p ((zup_n _ _ hp3).trans ((zup_n _ _ hpt).trans hp2)) rfl rfl (Nat.le_of_ble_eq_true rfl) ?_
    refine z_aload_n G dJ4_linkBefore_42 rfl rfl rfl ?_
    refine z_dup G dJ4_linkBefore_43 rfl rfl ?_
    refine z_get G dJ4_linkBefore_44 rfl (j := 1) fl_J4_7_9 ((zup_n _ _ hap).trans ((zup_n _ _ has).trans ((zup_n _ _ ha).trans hp0))) rfl ?_
    refine z_iconst G dJ4_linkBefore_47 rfl (v := 1) (by decide) ?_
    refine z_iadd G dJ4_linkBefore_48 rfl ?_
    refine z_put G dJ4_linkBefore_49 rfl (j := 1) fl_J4_7_9p ((zup_n _ _ hap).trans ((zup_n _ _ has).trans ((zup_n _ _ ha).trans hp0))) rfl rfl (Nat.le_of_ble_eq_true rfl) ?_
    refine z_aload_n G dJ4_linkBefore_52 rfl rfl rfl ?_
    refine z_dup G dJ4_linkBefore_53 rfl rfl ?_
    refine z_get G dJ4_linkBefore_54 rfl (j := 0) fl_J4_33_9 (zup_s _ _ _) rfl ?_
    refine z_iconst G dJ4_linkBefore_57 rfl (v := 1) (by decide) ?_
    refine z_iadd G dJ4_linkBefore_58 rfl ?_
    refine z_put G dJ4_linkBefore_59 rfl (j := 0) fl_J4_33_9p (zup_s _ _ _) rfl rfl (Nat.le_of_ble_eq_true rfl) ?_
    exact z_vret G dJ4_linkBefore_62 rfl (hK0 n5 _ hn5 ((zup_s _ _ _).trans (by unfold llC; rw [nI_succ]; rfl)) (by simp [zup, ha.symm, hs.symm, hpt.symm]) (by simp [zup, has.symm, hs, hp3.symm]; exact rfl) (by simp [zup, hap.symm, hp3, hpt]; exact rfl) (fun q h1 h2 h3 h4 => by simp [zup, h1, h2, h3, h4]))
def T_J4_linkBefore_e : List Value → Hp → (Res → Hp → Prop) → Prop := fun av g K => ∃ (a n x s : Nat) (md : Int32) (fs la y nx : Option Nat), av = [.ref a, .ref x, .ref s] ∧ g a = some (llC md n fs la) ∧ g s = some (nodC y nx none) ∧ (∀ (t : Nat) (h : Hp), g t = none → h a = some (llC (md + 1) (n + 1) (some t) la) → h t = some (nodC (some x) (some s) none) → h s = some (nodC y nx (some t)) → (∀ q, q ≠ a → q ≠ t → q ≠ s → h q = g q) → K (.inl none) h)
theorem C_J4_linkBefore_e {l : Launch} {s0 : State} (h0 : St0 l s0) : Ctr l s0 yJ4_linkBefore (ws_ yJ4_linkBefore cJ4_linkBefore 5 (Option.none : Option Jvm.ClassFile.FieldType)) 2 1 3 T_J4_linkBefore_e := by
  refine ctr_of h0 (by decide) ?_ ?_
  · rintro av g K ⟨a, n, x, s, md, fs, la, y, nx, rfl, hp0, hp1, hK0⟩
    exact Nat.le_of_ble_eq_true rfl
  · rintro Z X av g K G ⟨a, n, x, s, md, fs, la, y, nx, rfl, hp0, hp1, hK0⟩
    show Z 0 [some (.ref a), some (.ref x), some (.ref s), none, none] [] _ _ _
    have has : a ≠ s := fun e => by rw [e, hp1] at hp0; cases hp0
    refine z_aload_n G dJ4_linkBefore_0 rfl rfl rfl ?_
    refine z_get G dJ4_linkBefore_1 rfl (j := 2) fl_J4_30_16 hp1 rfl ?_
    refine z_astore_n G dJ4_linkBefore_4 rfl (i := 3) rfl rfl (by decide) (zcat_s rfl) (show Z 5 [_, _, _, _, _] _ _ _ _ from ?_)
    refine z_new G dJ4_linkBefore_5 rfl k_J30 q1194 q1195 q153 (fs := [.null, .null, .null]) rfl (Nat.le_of_ble_eq_true rfl) (Nat.le_of_ble_eq_true rfl) (fun n5 hn5 => ?_)
    have ha : a ≠ n5 := fun e => by rw [← e, hp0] at hn5; cases hn5
    have hs : s ≠ n5 := fun e => by rw [← e, hp1] at hn5; cases hn5
    refine z_dup G dJ4_linkBefore_8 rfl rfl ?_
    refine z_aload_nN G dJ4_linkBefore_9 rfl rfl rfl ?_
    refine z_aload_n G dJ4_linkBefore_10 rfl rfl rfl ?_
    refine z_aload_n G dJ4_linkBefore_11 rfl rfl rfl ?_
    refine z_I G dJ4_linkBefore_12 rfl m_J30_init q1196 (C_J30_init h0) (by decide) (As := [_, _, _]) rfl rfl (Nat.le_of_ble_eq_true rfl) (Nat.zero_le _) (Nat.zero_le _) (⟨n5, x, some s, none, rfl, zup_s _ _ _, ?_⟩)
    rw [zup_zup]
    refine z_astore G dJ4_linkBefore_15 rfl (i := 4) rfl (by decide) (zcat_s rfl) (show Z 17 [_, _, _, _, _] _ _ _ _ from ?_)
    refine z_aload_n G dJ4_linkBefore_17 rfl rfl rfl ?_
    refine z_aload G dJ4_linkBefore_18 rfl rfl ?_
    refine z_put G dJ4_linkBefore_20 rfl (j := 2) fl_J4_30_16p ((zup_n _ _ hs).trans hp1) rfl rfl (Nat.le_of_ble_eq_true rfl) ?_
    refine z_aload_nN G dJ4_linkBefore_23 rfl rfl rfl ?_
    refine z_ifnonnullN G dJ4_linkBefore_24 rfl ?_
    refine z_aload_n G dJ4_linkBefore_27 rfl rfl rfl ?_
    refine z_aload G dJ4_linkBefore_28 rfl rfl ?_
    refine z_put G dJ4_linkBefore_30 rfl (j := 2) fl_J4_18_9p ((zup_n _ _ has).trans ((zup_n _ _ ha).trans hp0)) rfl rfl (Nat.le_of_ble_eq_true rfl) ?_
    refine z_goto G dJ4_linkBefore_33 (tgt := 42) (by decide) ?_
    refine z_aload_n G dJ4_linkBefore_42 rfl rfl rfl ?_
    refine z_dup G dJ4_linkBefore_43 rfl rfl ?_
    refine z_get G dJ4_linkBefore_44 rfl (j := 1) fl_J4_7_9 (zup_s _ _ _) rfl ?_
    refine z_iconst G dJ4_linkBefore_47 rfl (v := 1) (by decide) ?_
    refine z_iadd G dJ4_linkBefore_48 rfl ?_
    refine z_put G dJ4_linkBefore_49 rfl (j := 1) fl_J4_7_9p (zup_s _ _ _) rfl rfl (Nat.le_of_ble_eq_true rfl) ?_
    refine z_aload_n G dJ4_linkBefore_52 rfl rfl rfl ?_
    refine z_dup G dJ4_linkBefore_53 rfl rfl ?_
    refine z_get G dJ4_linkBefore_54 rfl (j := 0) fl_J4_33_9 (zup_s _ _ _) rfl ?_
    refine z_iconst G dJ4_linkBefore_57 rfl (v := 1) (by decide) ?_
    refine z_iadd G dJ4_linkBefore_58 rfl ?_
    refine z_put G dJ4_linkBefore_59 rfl (j := 0) fl_J4_33_9p (zup_s _ _ _) rfl rfl (Nat.le_of_ble_eq_true rfl) ?_
    exact z_vret G dJ4_linkBefore_62 rfl (hK0 n5 _ hn5 ((zup_s _ _ _).trans (by unfold llC; rw [nI_succ]; rfl)) (by simp [zup, ha.symm, hs.symm]) (by simp [zup, has.symm, hs]; exact rfl) (fun q h1 h2 h3 => by simp [zup, h1, h2, h3]))
