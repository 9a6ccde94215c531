/-! THE COMPONENT: pipes and lumps -/
def pipeC (st cr ta me sm : Int32) : AO := .inl (.inr (4, [.int st, .int cr, .int ta, .int me, .int sm]))
def lumpC (we : Int32) : AO := .inl (.inr (5, [.int we]))
def T_X5_init : List Value → Hp → (Res → Hp → Prop) → Prop := fun av g K => ∃ (a : Nat) (s c x y z u v : Int32), av = [.ref a, .int s, .int c] ∧ g a = some (pipeC x y z u v) ∧ K (.inl none) (zup g a (pipeC s c z u v))
theorem C_X5_init {l : Launch} {s0 : State} (h0 : St0 l s0) : Ctr l s0 yX5_init (ws_ yX5_init cX5_init 3 (Option.none : Option Jvm.ClassFile.FieldType)) 2 0 0 T_X5_init := by
  refine ctr_of h0 (by decide) ?_ ?_
  · rintro av g K ⟨a, s, c, x, y, z, u, v, rfl, hp0, hK0⟩
    exact Nat.le_of_ble_eq_true rfl
  · rintro Z X av g K G ⟨a, s, c, x, y, z, u, v, rfl, hp0, hK0⟩
    show Z 0 [some (.ref a), some (.int s), some (.int c)] [] _ _ _
    refine z_aload_n G dX5_init_0 rfl rfl rfl ?_
    refine z_objInit G dX5_init_1 rfl q1051 (by decide) (Nat.le_of_ble_eq_true rfl) ?_
    refine z_aload_n G dX5_init_4 rfl rfl rfl ?_
    refine z_iload_n G dX5_init_5 rfl rfl rfl ?_
    refine z_put G dX5_init_6 rfl (j := 0) fl_X5_9_4p hp0 rfl rfl (Nat.le_of_ble_eq_true rfl) ?_
    refine z_aload_n G dX5_init_9 rfl rfl rfl ?_
    refine z_iload_n G dX5_init_10 rfl rfl rfl ?_
    refine z_put G dX5_init_11 rfl (j := 1) fl_X5_15_4p (zup_s _ _ _) rfl rfl (Nat.le_of_ble_eq_true rfl) ?_
    exact z_vret G dX5_init_14 rfl (by rw [zup_zup]; exact hK0)
def T_X6_init : List Value → Hp → (Res → Hp → Prop) → Prop := fun av g K => ∃ (a : Nat) (s x : Int32), av = [.ref a, .int s] ∧ g a = some (lumpC x) ∧ K (.inl none) (zup g a (lumpC s))
theorem C_X6_init {l : Launch} {s0 : State} (h0 : St0 l s0) : Ctr l s0 yX6_init (ws_ yX6_init cX6_init 2 (Option.none : Option Jvm.ClassFile.FieldType)) 2 0 0 T_X6_init := by
  refine ctr_of h0 (by decide) ?_ ?_
  · rintro av g K ⟨a, s, x, rfl, hp0, hK0⟩
    exact Nat.le_of_ble_eq_true rfl
  · rintro Z X av g K G ⟨a, s, x, rfl, hp0, hK0⟩
    show Z 0 [some (.ref a), some (.int s)] [] _ _ _
    refine z_aload_n G dX6_init_0 rfl rfl rfl ?_
    refine z_objInit G dX6_init_1 rfl q1250 (by decide) (Nat.le_of_ble_eq_true rfl) ?_
    refine z_aload_n G dX6_init_4 rfl rfl rfl ?_
    refine z_iload_n G dX6_init_5 rfl rfl rfl ?_
    refine z_put G dX6_init_6 rfl (j := 0) fl_X6_7_5p hp0 rfl rfl (Nat.le_of_ble_eq_true rfl) ?_
    exact z_vret G dX6_init_9 rfl (hK0)
def p_sh (st : Int32) : Bool := decide (st < 3)
def p_lum (st cr : Int32) : Int32 := (cr + 2) / 3 + bI (p_sh st)
def p_wan (st : Int32) : Int32 := if p_sh st = true then 3 - st else 0
def p_aga (st cr ta : Int32) : Int32 := if p_sh st = true then 0 else if cr ≤ 2 then (if ta ≤ 4 then -1 else 2) else 1
def p_ahd (st cr st2 cr2 : Int32) : Bool := if st = st2 then decide (cr < cr2) else decide (st2 < st)
def T_X5_isShort : List Value → Hp → (Res → Hp → Prop) → Prop := fun av g K => ∃ (a : Nat) (st cr ta me sm : Int32), av = [.ref a] ∧ g a = some (pipeC st cr ta me sm) ∧ K (.inl (some (.int (bI (p_sh st))))) g
theorem C_X5_isShort {l : Launch} {s0 : State} (h0 : St0 l s0) : Ctr l s0 yX5_isShort (ws_ yX5_isShort cX5_isShort 1 (Option.some Jvm.ClassFile.FieldType.boolean)) 1 0 0 T_X5_isShort := by
  refine ctr_of h0 (by decide) ?_ ?_
  · rintro av g K ⟨a, st, cr, ta, me, sm, rfl, hp0, hK0⟩
    exact Nat.le_of_ble_eq_true rfl
  · rintro Z X av g K G ⟨a, st, cr, ta, me, sm, rfl, hp0, hK0⟩
    show Z 0 [some (.ref a)] [] _ _ _
    refine z_aload_n G dX5_isShort_0 rfl rfl rfl ?_
    refine z_get G dX5_isShort_1 rfl (j := 0) fl_X5_9_4 hp0 rfl ?_
    refine z_iconst G dX5_isShort_4 rfl (v := 3) (by decide) ?_
    refine z_icmp_ge G dX5_isShort_5 rfl (tgt := 12) (by decide) (fun c_5 => ?_) (fun c_5 => ?_)
    · have c_5n := Int32.not_lt.mpr c_5
      refine z_iconst G dX5_isShort_12 rfl (v := 0) (by decide) ?_
      exact z_iret G dX5_isShort_13 rfl rfl (by simpa [p_sh, bI, c_5, c_5n] using hK0)
    · have c_5n := Int32.not_le.mp c_5
      refine z_iconst G dX5_isShort_8 rfl (v := 1) (by decide) ?_
      refine z_goto G dX5_isShort_9 (tgt := 13) (by decide) ?_
      exact z_iret G dX5_isShort_13 rfl rfl (by simpa [p_sh, bI, c_5, c_5n] using hK0)
def T_X5_lumps : List Value → Hp → (Res → Hp → Prop) → Prop := fun av g K => ∃ (a : Nat) (st cr ta me sm : Int32), av = [.ref a] ∧ g a = some (pipeC st cr ta me sm) ∧ K (.inl (some (.int (p_lum st cr)))) g
theorem C_X5_lumps {l : Launch} {s0 : State} (h0 : St0 l s0) : Ctr l s0 yX5_lumps (ws_ yX5_lumps cX5_lumps 1 (Option.some Jvm.ClassFile.FieldType.int)) 2 0 0 T_X5_lumps := by
  refine ctr_of h0 (by decide) ?_ ?_
  · rintro av g K ⟨a, st, cr, ta, me, sm, rfl, hp0, hK0⟩
    exact Nat.le_of_ble_eq_true rfl
  · rintro Z X av g K G ⟨a, st, cr, ta, me, sm, rfl, hp0, hK0⟩
    show Z 0 [some (.ref a)] [] _ _ _
    refine z_aload_n G dX5_lumps_0 rfl rfl rfl ?_
    refine z_get G dX5_lumps_1 rfl (j := 1) fl_X5_15_4 hp0 rfl ?_
    refine z_iconst G dX5_lumps_4 rfl (v := 2) (by decide) ?_
    refine z_iadd G dX5_lumps_5 rfl ?_
    refine z_iconst G dX5_lumps_6 rfl (v := 3) (by decide) ?_
    refine z_idiv G dX5_lumps_7 rfl (by decide) ?_
    refine z_aload_n G dX5_lumps_8 rfl rfl rfl ?_
    refine z_V G dX5_lumps_9 rfl m_X5_isShort q1344 (C_X5_isShort h0) (by decide) (As := []) rfl rfl (Nat.le_of_ble_eq_true rfl) (Nat.zero_le _) (Nat.zero_le _) (zhas_K hp0 (zisK_raw _ _) k_X5) (⟨a, st, cr, ta, me, sm, rfl, hp0, ?_⟩)
    refine z_if_eq G dX5_lumps_12 rfl (tgt := 19) (by decide) (fun c_12 => ?_) (fun c_12 => ?_)
    · have c_12b := bI_f c_12
      refine z_iconst G dX5_lumps_19 rfl (v := 0) (by decide) ?_
      refine z_iadd G dX5_lumps_20 rfl ?_
      exact z_iret G dX5_lumps_21 rfl rfl (by simpa [p_lum, bI, c_12, c_12b] using hK0)
    · have c_12b := bI_t c_12
      refine z_iconst G dX5_lumps_15 rfl (v := 1) (by decide) ?_
      refine z_goto G dX5_lumps_16 (tgt := 20) (by decide) ?_
      refine z_iadd G dX5_lumps_20 rfl ?_
      exact z_iret G dX5_lumps_21 rfl rfl (by simpa [p_lum, bI, c_12, c_12b] using hK0)
def T_X5_wants : List Value → Hp → (Res → Hp → Prop) → Prop := fun av g K => ∃ (a : Nat) (st cr ta me sm : Int32), av = [.ref a] ∧ g a = some (pipeC st cr ta me sm) ∧ K (.inl (some (.int (p_wan st)))) g
theorem C_X5_wants {l : Launch} {s0 : State} (h0 : St0 l s0) : Ctr l s0 yX5_wants (ws_ yX5_wants cX5_wants 1 (Option.some Jvm.ClassFile.FieldType.int)) 2 0 0 T_X5_wants := by
  refine ctr_of h0 (by decide) ?_ ?_
  · rintro av g K ⟨a, st, cr, ta, me, sm, rfl, hp0, hK0⟩
    exact Nat.le_of_ble_eq_true rfl
  · rintro Z X av g K G ⟨a, st, cr, ta, me, sm, rfl, hp0, hK0⟩
    show Z 0 [some (.ref a)] [] _ _ _
    refine z_aload_n G dX5_wants_0 rfl rfl rfl ?_
    refine z_V G dX5_wants_1 rfl m_X5_isShort q1344 (C_X5_isShort h0) (by decide) (As := []) rfl rfl (Nat.le_of_ble_eq_true rfl) (Nat.zero_le _) (Nat.zero_le _) (zhas_K hp0 (zisK_raw _ _) k_X5) (⟨a, st, cr, ta, me, sm, rfl, hp0, ?_⟩)
    refine z_if_eq G dX5_wants_4 rfl (tgt := 16) (by decide) (fun c_4 => ?_) (fun c_4 => ?_)
    · have c_4b := bI_f c_4
      refine z_iconst G dX5_wants_16 rfl (v := 0) (by decide) ?_
      exact z_iret G dX5_wants_17 rfl rfl (by simpa [p_wan, c_4, c_4b] using hK0)
    · have c_4b := bI_t c_4
      refine z_iconst G dX5_wants_7 rfl (v := 3) (by decide) ?_
      refine z_aload_n G dX5_wants_8 rfl rfl rfl ?_
      refine z_get G dX5_wants_9 rfl (j := 0) fl_X5_9_4 hp0 rfl ?_
      refine z_isub G dX5_wants_12 rfl ?_
      refine z_goto G dX5_wants_13 (tgt := 17) (by decide) ?_
      exact z_iret G dX5_wants_17 rfl rfl (by simpa [p_wan, c_4, c_4b] using hK0)
def T_X5_against : List Value → Hp → (Res → Hp → Prop) → Prop := fun av g K => ∃ (a : Nat) (st cr ta me sm : Int32), av = [.ref a] ∧ g a = some (pipeC st cr ta me sm) ∧ K (.inl (some (.int (p_aga st cr ta)))) g
theorem C_X5_against {l : Launch} {s0 : State} (h0 : St0 l s0) : Ctr l s0 yX5_against (ws_ yX5_against cX5_against 1 (Option.some Jvm.ClassFile.FieldType.int)) 2 0 0 T_X5_against := by
  refine ctr_of h0 (by decide) ?_ ?_
  · rintro av g K ⟨a, st, cr, ta, me, sm, rfl, hp0, hK0⟩
    exact Nat.le_of_ble_eq_true rfl
  · rintro Z X av g K G ⟨a, st, cr, ta, me, sm, rfl, hp0, hK0⟩
    show Z 0 [some (.ref a)] [] _ _ _
    refine z_aload_n G dX5_against_0 rfl rfl rfl ?_
    refine z_V G dX5_against_1 rfl m_X5_isShort q1344 (C_X5_isShort h0) (by decide) (As := []) rfl rfl (Nat.le_of_ble_eq_true rfl) (Nat.zero_le _) (Nat.zero_le _) (zhas_K hp0 (zisK_raw _ _) k_X5) (⟨a, st, cr, ta, me, sm, rfl, hp0, ?_⟩)
    refine z_if_eq G dX5_against_4 rfl (tgt := 9) (by decide) (fun c_4 => ?_) (fun c_4 => ?_)
    · have c_4b := bI_f c_4
      refine z_aload_n G dX5_against_9 rfl rfl rfl ?_
      refine z_get G dX5_against_10 rfl (j := 1) fl_X5_15_4 hp0 rfl ?_
      refine z_iconst G dX5_against_13 rfl (v := 2) (by decide) ?_
      refine z_icmp_le G dX5_against_14 rfl (tgt := 19) (by decide) (fun c_14 => ?_) (fun c_14 => ?_)
      · have c_14n := Int32.not_lt.mpr c_14
        refine z_aload_n G dX5_against_19 rfl rfl rfl ?_
        refine z_get G dX5_against_20 rfl (j := 2) fl_X5_21_4 hp0 rfl ?_
        refine z_iconst G dX5_against_23 rfl (v := 4) (by decide) ?_
        refine z_icmp_le G dX5_against_24 rfl (tgt := 31) (by decide) (fun c_24 => ?_) (fun c_24 => ?_)
        · have c_24n := Int32.not_lt.mpr c_24
          refine z_iconst G dX5_against_31 rfl (v := (-1)) (by decide) ?_
          exact z_iret G dX5_against_32 rfl rfl (by simpa [p_aga, c_4, c_4b, c_14, c_14n, c_24, c_24n] using hK0)
        · have c_24n := Int32.not_le.mp c_24
          refine z_iconst G dX5_against_27 rfl (v := 2) (by decide) ?_
          refine z_goto G dX5_against_28 (tgt := 32) (by decide) ?_
          exact z_iret G dX5_against_32 rfl rfl (by simpa [p_aga, c_4, c_4b, c_14, c_14n, c_24, c_24n] using hK0)
      · have c_14n := Int32.not_le.mp c_14
        refine z_iconst G dX5_against_17 rfl (v := 1) (by decide) ?_
        exact z_iret G dX5_against_18 rfl rfl (by simpa [p_aga, c_4, c_4b, c_14, c_14n] using hK0)
    · have c_4b := bI_t c_4
      refine z_iconst G dX5_against_7 rfl (v := 0) (by decide) ?_
      exact z_iret G dX5_against_8 rfl rfl (by simpa [p_aga, c_4, c_4b] using hK0)
def T_X5_draws : List Value → Hp → (Res → Hp → Prop) → Prop := fun av g K => ∃ (a : Nat) (st cr ta me sm : Int32), av = [.ref a] ∧ g a = some (pipeC st cr ta me sm) ∧ K (.inl (some (.int (bI (decide (p_aga st cr ta = -1)))))) g
theorem C_X5_draws {l : Launch} {s0 : State} (h0 : St0 l s0) : Ctr l s0 yX5_draws (ws_ yX5_draws cX5_draws 1 (Option.some Jvm.ClassFile.FieldType.boolean)) 3 0 0 T_X5_draws := by
  refine ctr_of h0 (by decide) ?_ ?_
  · rintro av g K ⟨a, st, cr, ta, me, sm, rfl, hp0, hK0⟩
    exact Nat.le_of_ble_eq_true rfl
  · rintro Z X av g K G ⟨a, st, cr, ta, me, sm, rfl, hp0, hK0⟩
    show Z 0 [some (.ref a)] [] _ _ _
    refine z_aload_n G dX5_draws_0 rfl rfl rfl ?_
    refine z_V G dX5_draws_1 rfl m_X5_against q1875 (C_X5_against h0) (by decide) (As := []) rfl rfl (Nat.le_of_ble_eq_true rfl) (Nat.zero_le _) (Nat.zero_le _) (zhas_K hp0 (zisK_raw _ _) k_X5) (⟨a, st, cr, ta, me, sm, rfl, hp0, ?_⟩)
    refine z_iconst G dX5_draws_4 rfl (v := (-1)) (by decide) ?_
    refine z_icmp_ne G dX5_draws_5 rfl (tgt := 12) (by decide) (fun c_5 => ?_) (fun c_5 => ?_)
    · refine z_iconst G dX5_draws_12 rfl (v := 0) (by decide) ?_
      exact z_iret G dX5_draws_13 rfl rfl (by simpa [bI, c_5] using hK0)
    · refine z_iconst G dX5_draws_8 rfl (v := 1) (by decide) ?_
      refine z_goto G dX5_draws_9 (tgt := 13) (by decide) ?_
      exact z_iret G dX5_draws_13 rfl rfl (by simpa [bI, c_5] using hK0)
def T_X5_isMended : List Value → Hp → (Res → Hp → Prop) → Prop := fun av g K => ∃ (a : Nat) (st cr ta me sm : Int32) (v : Int32), av = [.ref a, .int v] ∧ g a = some (pipeC st cr ta me sm) ∧ K (.inl none) (zup g a (pipeC (st + v) 0 0 (me + 1) sm))
theorem C_X5_isMended {l : Launch} {s0 : State} (h0 : St0 l s0) : Ctr l s0 yX5_isMended (ws_ yX5_isMended cX5_isMended 2 (Option.none : Option Jvm.ClassFile.FieldType)) 1 0 0 T_X5_isMended := by
  refine ctr_of h0 (by decide) ?_ ?_
  · rintro av g K ⟨a, st, cr, ta, me, sm, v, rfl, hp0, hK0⟩
    exact Nat.le_of_ble_eq_true rfl
  · rintro Z X av g K G ⟨a, st, cr, ta, me, sm, v, rfl, hp0, hK0⟩
    show Z 0 [some (.ref a), some (.int v)] [] _ _ _
    refine z_aload_n G dX5_isMended_0 rfl rfl rfl ?_
    refine z_dup G dX5_isMended_1 rfl rfl ?_
    refine z_get G dX5_isMended_2 rfl (j := 0) fl_X5_9_4 hp0 rfl ?_
    refine z_iload_n G dX5_isMended_5 rfl rfl rfl ?_
    refine z_iadd G dX5_isMended_6 rfl ?_
    refine z_put G dX5_isMended_7 rfl (j := 0) fl_X5_9_4p hp0 rfl rfl (Nat.le_of_ble_eq_true rfl) ?_
    refine z_aload_n G dX5_isMended_10 rfl rfl rfl ?_
    refine z_iconst G dX5_isMended_11 rfl (v := 0) (by decide) ?_
    refine z_put G dX5_isMended_12 rfl (j := 1) fl_X5_15_4p (zup_s _ _ _) rfl rfl (Nat.le_of_ble_eq_true rfl) ?_
    refine z_aload_n G dX5_isMended_15 rfl rfl rfl ?_
    refine z_iconst G dX5_isMended_16 rfl (v := 0) (by decide) ?_
    refine z_put G dX5_isMended_17 rfl (j := 2) fl_X5_21_4p (zup_s _ _ _) rfl rfl (Nat.le_of_ble_eq_true rfl) ?_
    refine z_aload_n G dX5_isMended_20 rfl rfl rfl ?_
    refine z_dup G dX5_isMended_21 rfl rfl ?_
    refine z_get G dX5_isMended_22 rfl (j := 3) fl_X5_24_4 (zup_s _ _ _) rfl ?_
    refine z_iconst G dX5_isMended_25 rfl (v := 1) (by decide) ?_
    refine z_iadd G dX5_isMended_26 rfl ?_
    refine z_put G dX5_isMended_27 rfl (j := 3) fl_X5_24_4p (zup_s _ _ _) rfl rfl (Nat.le_of_ble_eq_true rfl) ?_
    exact z_vret G dX5_isMended_30 rfl (by rw [zup_zup, zup_zup, zup_zup]; exact hK0)
def T_X5_isAhead : List Value → Hp → (Res → Hp → Prop) → Prop := fun av g K => ∃ (a b : Nat) (st cr ta me sm st2 cr2 ta2 me2 sm2 : Int32), av = [.ref a, .ref b] ∧ g a = some (pipeC st cr ta me sm) ∧ g b = some (pipeC st2 cr2 ta2 me2 sm2) ∧ K (.inl (some (.int (bI (p_ahd st cr st2 cr2))))) g
theorem C_X5_isAhead {l : Launch} {s0 : State} (h0 : St0 l s0) : Ctr l s0 yX5_isAhead (ws_ yX5_isAhead cX5_isAhead 2 (Option.some Jvm.ClassFile.FieldType.boolean)) 1 0 0 T_X5_isAhead := by
  refine ctr_of h0 (by decide) ?_ ?_
  · rintro av g K ⟨a, b, st, cr, ta, me, sm, st2, cr2, ta2, me2, sm2, rfl, hp0, hp1, hK0⟩
    exact Nat.le_of_ble_eq_true rfl
  · rintro Z X av g K G ⟨a, b, st, cr, ta, me, sm, st2, cr2, ta2, me2, sm2, rfl, hp0, hp1, hK0⟩
    show Z 0 [some (.ref a), some (.ref b)] [] _ _ _
    refine z_aload_n G dX5_isAhead_0 rfl rfl rfl ?_
    refine z_get G dX5_isAhead_1 rfl (j := 0) fl_X5_9_4 hp0 rfl ?_
    refine z_aload_n G dX5_isAhead_4 rfl rfl rfl ?_
    refine z_get G dX5_isAhead_5 rfl (j := 0) fl_X5_9_4 hp1 rfl ?_
    refine z_icmp_eq G dX5_isAhead_8 rfl (tgt := 28) (by decide) (fun c_8 => ?_) (fun c_8 => ?_)
    · refine z_aload_n G dX5_isAhead_28 rfl rfl rfl ?_
      refine z_get G dX5_isAhead_29 rfl (j := 1) fl_X5_15_4 hp0 rfl ?_
      refine z_aload_n G dX5_isAhead_32 rfl rfl rfl ?_
      refine z_get G dX5_isAhead_33 rfl (j := 1) fl_X5_15_4 hp1 rfl ?_
      refine z_icmp_ge G dX5_isAhead_36 rfl (tgt := 43) (by decide) (fun c_36 => ?_) (fun c_36 => ?_)
      · have c_36n := Int32.not_lt.mpr c_36
        refine z_iconst G dX5_isAhead_43 rfl (v := 0) (by decide) ?_
        exact z_iret G dX5_isAhead_44 rfl rfl (by simpa [p_ahd, bI, c_8, c_36, c_36n] using hK0)
      · have c_36n := Int32.not_le.mp c_36
        refine z_iconst G dX5_isAhead_39 rfl (v := 1) (by decide) ?_
        refine z_goto G dX5_isAhead_40 (tgt := 44) (by decide) ?_
        exact z_iret G dX5_isAhead_44 rfl rfl (by simpa [p_ahd, bI, c_8, c_36, c_36n] using hK0)
    · refine z_aload_n G dX5_isAhead_11 rfl rfl rfl ?_
      refine z_get G dX5_isAhead_12 rfl (j := 0) fl_X5_9_4 hp0 rfl ?_
      refine z_aload_n G dX5_isAhead_15 rfl rfl rfl ?_
      refine z_get G dX5_isAhead_16 rfl (j := 0) fl_X5_9_4 hp1 rfl ?_
      refine z_icmp_le G dX5_isAhead_19 rfl (tgt := 26) (by decide) (fun c_19 => ?_) (fun c_19 => ?_)
      · have c_19n := Int32.not_lt.mpr c_19
        refine z_iconst G dX5_isAhead_26 rfl (v := 0) (by decide) ?_
        exact z_iret G dX5_isAhead_27 rfl rfl (by simpa [p_ahd, bI, c_8, c_19, c_19n] using hK0)
      · have c_19n := Int32.not_le.mp c_19
        refine z_iconst G dX5_isAhead_22 rfl (v := 1) (by decide) ?_
        refine z_goto G dX5_isAhead_23 (tgt := 27) (by decide) ?_
        exact z_iret G dX5_isAhead_27 rfl rfl (by simpa [p_ahd, bI, c_8, c_19, c_19n] using hK0)
def T_X6_dries : List Value → Hp → (Res → Hp → Prop) → Prop := fun av g K => ∃ (a : Nat) (we : Int32), av = [.ref a] ∧ g a = some (lumpC we) ∧ K (.inl (some (.int (bI (decide (we - 1 = 0)))))) (zup g a (lumpC (we - 1)))
theorem C_X6_dries {l : Launch} {s0 : State} (h0 : St0 l s0) : Ctr l s0 yX6_dries (ws_ yX6_dries cX6_dries 1 (Option.some Jvm.ClassFile.FieldType.boolean)) 1 0 0 T_X6_dries := by
  refine ctr_of h0 (by decide) ?_ ?_
  · rintro av g K ⟨a, we, rfl, hp0, hK0⟩
    exact Nat.le_of_ble_eq_true rfl
  · rintro Z X av g K G ⟨a, we, rfl, hp0, hK0⟩
    show Z 0 [some (.ref a)] [] _ _ _
    refine z_aload_n G dX6_dries_0 rfl rfl rfl ?_
    refine z_dup G dX6_dries_1 rfl rfl ?_
    refine z_get G dX6_dries_2 rfl (j := 0) fl_X6_7_5 hp0 rfl ?_
    refine z_iconst G dX6_dries_5 rfl (v := 1) (by decide) ?_
    refine z_isub G dX6_dries_6 rfl ?_
    refine z_put G dX6_dries_7 rfl (j := 0) fl_X6_7_5p hp0 rfl rfl (Nat.le_of_ble_eq_true rfl) ?_
    refine z_aload_n G dX6_dries_10 rfl rfl rfl ?_
    refine z_get G dX6_dries_11 rfl (j := 0) fl_X6_7_5 (zup_s _ _ _) rfl ?_
    refine z_if_ne G dX6_dries_14 rfl (tgt := 21) (by decide) (fun c_14 => ?_) (fun c_14 => ?_)
    · refine z_iconst G dX6_dries_21 rfl (v := 0) (by decide) ?_
      exact z_iret G dX6_dries_22 rfl rfl (by simpa [bI, lumpC, c_14] using hK0)
    · refine z_iconst G dX6_dries_17 rfl (v := 1) (by decide) ?_
      refine z_goto G dX6_dries_18 (tgt := 22) (by decide) ?_
      exact z_iret G dX6_dries_22 rfl rfl (by simpa [bI, lumpC, c_14] using hK0)
def p_min (x y : Int32) : Int32 := if y < x then y else x
def p_max (x y : Int32) : Int32 := if x < y then y else x
def p_sta (ta : Int32) : Int32 := p_min 9 (ta + 1)
def p_scr (cr ta : Int32) : Int32 := if p_sta ta < 4 then cr else p_min 9 (cr + 1)
def T_X5_smokes : List Value → Hp → (Res → Hp → Prop) → Prop := fun av g K => ∃ (a : Nat) (st cr ta me sm : Int32), av = [.ref a] ∧ g a = some (pipeC st cr ta me sm) ∧ K (.inl none) (zup g a (pipeC st (p_scr cr ta) (p_sta ta) me (sm + 1)))
theorem C_X5_smokes {l : Launch} {s0 : State} (h0 : St0 l s0) : Ctr l s0 yX5_smokes (ws_ yX5_smokes cX5_smokes 1 (Option.none : Option Jvm.ClassFile.FieldType)) 2 0 0 T_X5_smokes := by
  refine ctr_of h0 (by decide) ?_ ?_
  · rintro av g K ⟨a, st, cr, ta, me, sm, rfl, hp0, hK0⟩
    exact Nat.le_of_ble_eq_true rfl
  · rintro Z X av g K G ⟨a, st, cr, ta, me, sm, rfl, hp0, hK0⟩
    show Z 0 [some (.ref a)] [] _ _ _
    refine z_aload_n G dX5_smokes_0 rfl rfl rfl ?_
    refine z_bipush G dX5_smokes_1 rfl (v := 9) (by decide) ?_
    refine z_aload_n G dX5_smokes_3 rfl rfl rfl ?_
    refine z_get G dX5_smokes_4 rfl (j := 2) fl_X5_21_4 hp0 rfl ?_
    refine z_iconst G dX5_smokes_7 rfl (v := 1) (by decide) ?_
    refine z_iadd G dX5_smokes_8 rfl ?_
    refine z_mmin G dX5_smokes_9 rfl q1884 (by decide) (Nat.le_of_ble_eq_true rfl) ?_
    refine z_put G dX5_smokes_12 rfl (j := 2) fl_X5_21_4p hp0 rfl rfl (Nat.le_of_ble_eq_true rfl) ?_
    refine z_aload_n G dX5_smokes_15 rfl rfl rfl ?_
    refine z_get G dX5_smokes_16 rfl (j := 2) fl_X5_21_4 (zup_s _ _ _) rfl ?_
    refine z_iconst G dX5_smokes_19 rfl (v := 4) (by decide) ?_
    refine z_icmp_lt G dX5_smokes_20 rfl (tgt := 38) (by decide) (fun c_20 => ?_) (fun c_20 => ?_)
    · have c_20n := Int32.not_le.mpr c_20
      have c_20 : p_sta ta < 4 := c_20
      refine z_aload_n G dX5_smokes_38 rfl rfl rfl ?_
      refine z_dup G dX5_smokes_39 rfl rfl ?_
      refine z_get G dX5_smokes_40 rfl (j := 4) fl_X5_27_4 (zup_s _ _ _) rfl ?_
      refine z_iconst G dX5_smokes_43 rfl (v := 1) (by decide) ?_
      refine z_iadd G dX5_smokes_44 rfl ?_
      refine z_put G dX5_smokes_45 rfl (j := 4) fl_X5_27_4p (zup_s _ _ _) rfl rfl (Nat.le_of_ble_eq_true rfl) ?_
      exact z_vret G dX5_smokes_48 rfl (by first | (rw [p_scr, if_pos c_20] at hK0; rw [zup_zup]; exact hK0) | (rw [p_scr, if_neg c_20] at hK0; rw [zup_zup, zup_zup]; exact hK0))
    · have c_20n := Int32.not_lt.mp c_20
      have c_20 : ¬ p_sta ta < 4 := c_20
      refine z_aload_n G dX5_smokes_23 rfl rfl rfl ?_
      refine z_bipush G dX5_smokes_24 rfl (v := 9) (by decide) ?_
      refine z_aload_n G dX5_smokes_26 rfl rfl rfl ?_
      refine z_get G dX5_smokes_27 rfl (j := 1) fl_X5_15_4 (zup_s _ _ _) rfl ?_
      refine z_iconst G dX5_smokes_30 rfl (v := 1) (by decide) ?_
      refine z_iadd G dX5_smokes_31 rfl ?_
      refine z_mmin G dX5_smokes_32 rfl q1884 (by decide) (Nat.le_of_ble_eq_true rfl) ?_
      refine z_put G dX5_smokes_35 rfl (j := 1) fl_X5_15_4p (zup_s _ _ _) rfl rfl (Nat.le_of_ble_eq_true rfl) ?_
      refine z_aload_n G dX5_smokes_38 rfl rfl rfl ?_
      refine z_dup G dX5_smokes_39 rfl rfl ?_
      refine z_get G dX5_smokes_40 rfl (j := 4) fl_X5_27_4 (zup_s _ _ _) rfl ?_
      refine z_iconst G dX5_smokes_43 rfl (v := 1) (by decide) ?_
      refine z_iadd G dX5_smokes_44 rfl ?_
      refine z_put G dX5_smokes_45 rfl (j := 4) fl_X5_27_4p (zup_s _ _ _) rfl rfl (Nat.le_of_ble_eq_true rfl) ?_
      exact z_vret G dX5_smokes_48 rfl (by first | (rw [p_scr, if_pos c_20] at hK0; rw [zup_zup]; exact hK0) | (rw [p_scr, if_neg c_20] at hK0; rw [zup_zup, zup_zup]; exact hK0))
def T_X5_drops : List Value → Hp → (Res → Hp → Prop) → Prop := fun av g K => ∃ (a : Nat) (st cr ta me sm : Int32) (h : Int32), av = [.ref a, .int h] ∧ g a = some (pipeC st cr ta me sm) ∧ K (.inl none) (zup g a (pipeC (p_max 0 (st - h / 2)) (p_min 9 (cr + h / 3)) ta me sm))
theorem C_X5_drops {l : Launch} {s0 : State} (h0 : St0 l s0) : Ctr l s0 yX5_drops (ws_ yX5_drops cX5_drops 2 (Option.none : Option Jvm.ClassFile.FieldType)) 2 0 0 T_X5_drops := by
  refine ctr_of h0 (by decide) ?_ ?_
  · rintro av g K ⟨a, st, cr, ta, me, sm, h, rfl, hp0, hK0⟩
    exact Nat.le_of_ble_eq_true rfl
  · rintro Z X av g K G ⟨a, st, cr, ta, me, sm, h, rfl, hp0, hK0⟩
    show Z 0 [some (.ref a), some (.int h)] [] _ _ _
    refine z_aload_n G dX5_drops_0 rfl rfl rfl ?_
    refine z_iconst G dX5_drops_1 rfl (v := 0) (by decide) ?_
    refine z_aload_n G dX5_drops_2 rfl rfl rfl ?_
    refine z_get G dX5_drops_3 rfl (j := 0) fl_X5_9_4 hp0 rfl ?_
    refine z_iload_n G dX5_drops_6 rfl rfl rfl ?_
    refine z_iconst G dX5_drops_7 rfl (v := 2) (by decide) ?_
    refine z_idiv G dX5_drops_8 rfl (by decide) ?_
    refine z_isub G dX5_drops_9 rfl ?_
    refine z_mmax G dX5_drops_10 rfl q1896 (by decide) (Nat.le_of_ble_eq_true rfl) ?_
    refine z_put G dX5_drops_13 rfl (j := 0) fl_X5_9_4p hp0 rfl rfl (Nat.le_of_ble_eq_true rfl) ?_
    refine z_aload_n G dX5_drops_16 rfl rfl rfl ?_
    refine z_bipush G dX5_drops_17 rfl (v := 9) (by decide) ?_
    refine z_aload_n G dX5_drops_19 rfl rfl rfl ?_
    refine z_get G dX5_drops_20 rfl (j := 1) fl_X5_15_4 (zup_s _ _ _) rfl ?_
    refine z_iload_n G dX5_drops_23 rfl rfl rfl ?_
    refine z_iconst G dX5_drops_24 rfl (v := 3) (by decide) ?_
    refine z_idiv G dX5_drops_25 rfl (by decide) ?_
    refine z_iadd G dX5_drops_26 rfl ?_
    refine z_mmin G dX5_drops_27 rfl q1884 (by decide) (Nat.le_of_ble_eq_true rfl) ?_
    refine z_put G dX5_drops_30 rfl (j := 1) fl_X5_15_4p (zup_s _ _ _) rfl rfl (Nat.le_of_ble_eq_true rfl) ?_
    exact z_vret G dX5_drops_33 rfl (by rw [zup_zup]; exact hK0)
def T_X5_copy : List Value → Hp → (Res → Hp → Prop) → Prop := fun av g K => ∃ (a : Nat) (st cr ta me sm : Int32), av = [.ref a] ∧ g a = some (pipeC st cr ta me sm) ∧ (∀ b : Nat, g b = none → K (.inl (some (.ref b))) (zup g b (pipeC st cr ta me sm)))
theorem C_X5_copy {l : Launch} {s0 : State} (h0 : St0 l s0) : Ctr l s0 yX5_copy (ws_ yX5_copy cX5_copy 2 (Option.some (Jvm.ClassFile.FieldType.object "ClayPipes$Pipe"))) 3 1 5 T_X5_copy := by
  refine ctr_of h0 (by decide) ?_ ?_
  · rintro av g K ⟨a, st, cr, ta, me, sm, rfl, hp0, hK0⟩
    exact Nat.le_of_ble_eq_true rfl
  · rintro Z X av g K G ⟨a, st, cr, ta, me, sm, rfl, hp0, hK0⟩
    show Z 0 [some (.ref a), none] [] _ _ _
    refine z_new G dX5_copy_0 rfl k_X5 q1046 q1047 q148 (fs := [.int 0, .int 0, .int 0, .int 0, .int 0]) rfl (Nat.le_of_ble_eq_true rfl) (Nat.le_of_ble_eq_true rfl) (fun n0 hn0 => ?_)
    have hne : a ≠ n0 := fun e => by rw [← e, hp0] at hn0; cases hn0
    have hz : ∀ v : AO, zup g n0 v a = some (pipeC st cr ta me sm) := fun v => (zup_n _ _ hne).trans hp0
    refine z_dup G dX5_copy_3 rfl rfl ?_
    refine z_aload_n G dX5_copy_4 rfl rfl rfl ?_
    refine z_get G dX5_copy_5 rfl (j := 0) fl_X5_9_4 (hz _) rfl ?_
    refine z_aload_n G dX5_copy_8 rfl rfl rfl ?_
    refine z_get G dX5_copy_9 rfl (j := 1) fl_X5_15_4 (hz _) rfl ?_
    refine z_I G dX5_copy_12 rfl m_X5_init q1048 (C_X5_init h0) (by decide) (As := [_, _]) rfl rfl (Nat.le_of_ble_eq_true rfl) (Nat.zero_le _) (Nat.zero_le _) (⟨n0, st, cr, _, _, _, _, _, rfl, zup_s _ _ _, ?_⟩)
    rw [zup_zup]
    refine z_astore_n G dX5_copy_15 rfl (i := 1) rfl rfl (by decide) (zcat_s rfl) (show Z 16 [_, _] _ _ _ _ from ?_)
    refine z_aload_n G dX5_copy_16 rfl rfl rfl ?_
    refine z_aload_n G dX5_copy_17 rfl rfl rfl ?_
    refine z_get G dX5_copy_18 rfl (j := 2) fl_X5_21_4 (hz _) rfl ?_
    refine z_put G dX5_copy_21 rfl (j := 2) fl_X5_21_4p (zup_s _ _ _) rfl rfl (Nat.le_of_ble_eq_true rfl) ?_
    rw [zup_zup]
    refine z_aload_n G dX5_copy_24 rfl rfl rfl ?_
    refine z_aload_n G dX5_copy_25 rfl rfl rfl ?_
    refine z_get G dX5_copy_26 rfl (j := 3) fl_X5_24_4 (hz _) rfl ?_
    refine z_put G dX5_copy_29 rfl (j := 3) fl_X5_24_4p (zup_s _ _ _) rfl rfl (Nat.le_of_ble_eq_true rfl) ?_
    rw [zup_zup]
    refine z_aload_n G dX5_copy_32 rfl rfl rfl ?_
    refine z_aload_n G dX5_copy_33 rfl rfl rfl ?_
    refine z_get G dX5_copy_34 rfl (j := 4) fl_X5_27_4 (hz _) rfl ?_
    refine z_put G dX5_copy_37 rfl (j := 4) fl_X5_27_4p (zup_s _ _ _) rfl rfl (Nat.le_of_ble_eq_true rfl) ?_
    rw [zup_zup]
    refine z_aload_n G dX5_copy_40 rfl rfl rfl ?_
    exact z_aret G dX5_copy_41 rfl rfl rfl (hK0 n0 hn0)
