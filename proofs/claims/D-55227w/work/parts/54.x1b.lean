/-! THE COMPONENT: what is refused -/
def cpC (st : Nat) (sv : Option Nat) (hi ip li : Nat) (wt fp : Int32) (rs : Option Nat) : AO := .inl (.inr (0, [.ref st, va_rf sv, .ref hi, .ref ip, .ref li, .int wt, .int fp, va_rf rs]))
def T_X1_refuseBy : List Value → Hp → (Res → Hp → Prop) → Prop := fun av g K => ∃ (a st hi ip li : Nat) (sv rs c : Option Nat) (wt fp n d : Int32) (b : Bool), av = [.ref a, .int (bI b), .int n, .int d, va_rf c] ∧ g a = some (cpC st sv hi ip li wt fp rs) ∧ (b = false → K (.inl none) g) ∧ (b = true → ∀ r, g r = none → K (.inr "java/lang/UnsupportedOperationException") (zup (zup g r (reaC n d c)) a (cpC st sv hi ip li wt fp (some r))))
theorem C_X1_refuseBy {l : Launch} {s0 : State} (h0 : St0 l s0) : Ctr l s0 yX1_refuseBy (ws_ yX1_refuseBy cX1_refuseBy 5 (Option.none : Option Jvm.ClassFile.FieldType)) 8 2 9 T_X1_refuseBy := by
  refine ctr_of h0 (by decide) ?_ ?_
  · rintro av g K ⟨a, st, hi, ip, li, sv, rs, c, wt, fp, n, d, b, rfl, hp0, hK0, hK1⟩
    cases c <;> exact Nat.le_of_ble_eq_true rfl
  · rintro Z X av g K G ⟨a, st, hi, ip, li, sv, rs, c, wt, fp, n, d, b, rfl, hp0, hK0, hK1⟩
    rw [show zent [.ref a, .int (bI b), .int n, .int d, va_rf c] 5 = [some (.ref a), some (.int (bI b)), some (.int n), some (.int d), some (va_rf c)] from by cases c <;> rfl]
    show Z 0 [some (.ref a), some (.int (bI b)), some (.int n), some (.int d), some (va_rf c)] [] _ _ _
    refine z_iload_n G dX1_refuseBy_0 rfl rfl rfl ?_
    refine z_if_eq G dX1_refuseBy_1 rfl (tgt := 27) (by decide) (fun c_1 => ?_) (fun c_1 => ?_)
    · have hb := bI_f c_1
      exact z_vret G dX1_refuseBy_27 rfl (hK0 hb)
    · have hb := bI_t c_1
      refine z_aload_n G dX1_refuseBy_4 rfl rfl rfl ?_
      refine z_new G dX1_refuseBy_5 rfl k_X4 q1609 q1610 q130 (fs := [.int 0, .int 0, .null]) rfl (Nat.le_of_ble_eq_true rfl) (Nat.le_of_ble_eq_true rfl) (fun n0 hn0 => ?_)
      have hne : a ≠ n0 := fun e => by rw [← e, hp0] at hn0; cases hn0
      have hz : ∀ v : AO, zup g n0 v a = some (cpC st sv hi ip li wt fp rs) := fun v => (zup_n _ _ hne).trans hp0
      refine z_dup G dX1_refuseBy_8 rfl rfl ?_
      refine z_iload_n G dX1_refuseBy_9 rfl rfl rfl ?_
      refine z_iload_n G dX1_refuseBy_10 rfl rfl rfl ?_
      refine z_aloadv G dX1_refuseBy_11 rfl rfl (zref_rf _) ?_
      refine z_I G dX1_refuseBy_13 rfl m_X4_init q1611 (C_X4_init h0) (by decide) (As := [_, _, _]) rfl rfl (Nat.le_of_ble_eq_true rfl) (Nat.zero_le _) (Nat.zero_le _) (⟨n0, _, _, _, _, c, none, rfl, zup_s _ _ _, ?_⟩)
      rw [zup_zup]
      refine z_put G dX1_refuseBy_16 rfl (j := 7) fl_X1_46_0p (hz _) rfl rfl (Nat.le_of_ble_eq_true rfl) ?_
      exact z_throw0 G (cls := "java/lang/UnsupportedOperationException") (names := ["java/lang/RuntimeException", "java/lang/Exception"]) (by decide +kernel) (by decide +kernel) q1628 q134 at_refuseBy go_refuseBy dX1_refuseBy_19 dX1_refuseBy_22 dX1_refuseBy_23 dX1_refuseBy_26 (by intro x hx; cases hx) (by decide) (Nat.le_of_ble_eq_true rfl) (by decide) (by decide) (hK1 hb n0 hn0)
def T_X1_refuse : List Value → Hp → (Res → Hp → Prop) → Prop := fun av g K => ∃ (a st hi ip li : Nat) (sv rs : Option Nat) (wt fp n d : Int32) (b : Bool), av = [.ref a, .int (bI b), .int n, .int d] ∧ g a = some (cpC st sv hi ip li wt fp rs) ∧ (b = false → K (.inl none) g) ∧ (b = true → ∀ r, g r = none → K (.inr "java/lang/UnsupportedOperationException") (zup (zup g r (reaC n d none)) a (cpC st sv hi ip li wt fp (some r))))
theorem C_X1_refuse {l : Launch} {s0 : State} (h0 : St0 l s0) : Ctr l s0 yX1_refuse (ws_ yX1_refuse cX1_refuse 4 (Option.none : Option Jvm.ClassFile.FieldType)) 9 2 9 T_X1_refuse := by
  refine ctr_of h0 (by decide) ?_ ?_
  · rintro av g K ⟨a, st, hi, ip, li, sv, rs, wt, fp, n, d, b, rfl, hp0, hK0, hK1⟩
    exact Nat.le_of_ble_eq_true rfl
  · rintro Z X av g K G ⟨a, st, hi, ip, li, sv, rs, wt, fp, n, d, b, rfl, hp0, hK0, hK1⟩
    show Z 0 [some (.ref a), some (.int (bI b)), some (.int n), some (.int d)] [] _ _ _
    refine z_aload_n G dX1_refuse_0 rfl rfl rfl ?_
    refine z_iload_n G dX1_refuse_1 rfl rfl rfl ?_
    refine z_iload_n G dX1_refuse_2 rfl rfl rfl ?_
    refine z_iload_n G dX1_refuse_3 rfl rfl rfl ?_
    refine z_null G dX1_refuse_4 rfl ?_
    refine z_V G dX1_refuse_5 rfl m_X1_refuseBy q1605 (C_X1_refuseBy h0) (by decide) (As := [_, _, _, _]) rfl rfl (Nat.le_of_ble_eq_true rfl) (Nat.le_refl _) (Nat.le_refl _) (zhas_K hp0 (zisK_raw _ _) k_X1) (⟨a, st, hi, ip, li, sv, rs, none, wt, fp, n, d, b, rfl, hp0, fun hb => z_vret G dX1_refuse_8 rfl (hK0 hb), fun hb r hr => zx_out G (by intro x hx; cases hx) (hK1 hb r hr)⟩)
def T_X1_hasPlace : List Value → Hp → (Res → Hp → Prop) → Prop := fun av g K => ∃ (a st hi ip li : Nat) (sv rs : Option Nat) (wt fp x y : Int32), av = [.ref a, .int x, .int y] ∧ g a = some (cpC st sv hi ip li wt fp rs) ∧ (¬ x = y → K (.inl none) g) ∧ (x = y → ∀ r, g r = none → K (.inr "java/lang/UnsupportedOperationException") (zup (zup g r (reaC 4 y none)) a (cpC st sv hi ip li wt fp (some r))))
theorem C_X1_hasPlace {l : Launch} {s0 : State} (h0 : St0 l s0) : Ctr l s0 yX1_hasPlace (ws_ yX1_hasPlace cX1_hasPlace 3 (Option.none : Option Jvm.ClassFile.FieldType)) 10 2 9 T_X1_hasPlace := by
  refine ctr_of h0 (by decide) ?_ ?_
  · rintro av g K ⟨a, st, hi, ip, li, sv, rs, wt, fp, x, y, rfl, hp0, hK0, hK1⟩
    exact Nat.le_of_ble_eq_true rfl
  · rintro Z X av g K G ⟨a, st, hi, ip, li, sv, rs, wt, fp, x, y, rfl, hp0, hK0, hK1⟩
    show Z 0 [some (.ref a), some (.int x), some (.int y)] [] _ _ _
    refine z_aload_n G dX1_hasPlace_0 rfl rfl rfl ?_
    refine z_iload_n G dX1_hasPlace_1 rfl rfl rfl ?_
    refine z_iload_n G dX1_hasPlace_2 rfl rfl rfl ?_
    refine z_icmp_ne G dX1_hasPlace_3 rfl (tgt := 10) (by decide) (fun c_3 => ?_) (fun c_3 => ?_)
    · refine z_iconst G dX1_hasPlace_10 rfl (v := 0) (by decide) ?_
      refine z_iconst G dX1_hasPlace_11 rfl (v := 4) (by decide) ?_
      refine z_iload_n G dX1_hasPlace_12 rfl rfl rfl ?_
      refine z_V G dX1_hasPlace_13 rfl m_X1_refuse q1601 (C_X1_refuse h0) (by decide) (As := [_, _, _]) rfl rfl (Nat.le_of_ble_eq_true rfl) (Nat.le_refl _) (Nat.le_refl _) (zhas_K hp0 (zisK_raw _ _) k_X1) (⟨a, st, hi, ip, li, sv, rs, wt, fp, 4, y, false, rfl, hp0, fun hb => z_vret G dX1_hasPlace_16 rfl (hK0 c_3), fun hb r hr => zx_out G (by intro x hx; cases hx) (hK1 (by cases hb) r hr)⟩)
    · refine z_iconst G dX1_hasPlace_6 rfl (v := 1) (by decide) ?_
      refine z_goto G dX1_hasPlace_7 (tgt := 11) (by decide) ?_
      refine z_iconst G dX1_hasPlace_11 rfl (v := 4) (by decide) ?_
      refine z_iload_n G dX1_hasPlace_12 rfl rfl rfl ?_
      refine z_V G dX1_hasPlace_13 rfl m_X1_refuse q1601 (C_X1_refuse h0) (by decide) (As := [_, _, _]) rfl rfl (Nat.le_of_ble_eq_true rfl) (Nat.le_refl _) (Nat.le_refl _) (zhas_K hp0 (zisK_raw _ _) k_X1) (⟨a, st, hi, ip, li, sv, rs, wt, fp, 4, y, true, rfl, hp0, fun hb => z_vret G dX1_hasPlace_16 rfl (hK0 (by cases hb)), fun hb r hr => zx_out G (by intro x hx; cases hx) (hK1 c_3 r hr)⟩)
def T_X1_inRange : List Value → Hp → (Res → Hp → Prop) → Prop := fun av g K => ∃ (a st hi ip li : Nat) (sv rs : Option Nat) (wt fp v lo up : Int32), av = [.ref a, .int v, .int lo, .int up] ∧ g a = some (cpC st sv hi ip li wt fp rs) ∧ (btw v lo up = true → K (.inl none) g) ∧ (btw v lo up = false → ∀ r, g r = none → K (.inr "java/lang/UnsupportedOperationException") (zup (zup g r (reaC 3 v none)) a (cpC st sv hi ip li wt fp (some r))))
theorem C_X1_inRange {l : Launch} {s0 : State} (h0 : St0 l s0) : Ctr l s0 yX1_inRange (ws_ yX1_inRange cX1_inRange 4 (Option.none : Option Jvm.ClassFile.FieldType)) 10 2 9 T_X1_inRange := by
  refine ctr_of h0 (by decide) ?_ ?_
  · rintro av g K ⟨a, st, hi, ip, li, sv, rs, wt, fp, v, lo, up, rfl, hp0, hK0, hK1⟩
    exact Nat.le_of_ble_eq_true rfl
  · rintro Z X av g K G ⟨a, st, hi, ip, li, sv, rs, wt, fp, v, lo, up, rfl, hp0, hK0, hK1⟩
    show Z 0 [some (.ref a), some (.int v), some (.int lo), some (.int up)] [] _ _ _
    refine z_aload_n G dX1_inRange_0 rfl rfl rfl ?_
    refine z_iload_n G dX1_inRange_1 rfl rfl rfl ?_
    refine z_iload_n G dX1_inRange_2 rfl rfl rfl ?_
    refine z_iload_n G dX1_inRange_3 rfl rfl rfl ?_
    refine z_S G dX1_inRange_4 rfl m_X1_isBetween q1598 (C_X1_isBetween h0) (by decide) (As := [_, _, _]) rfl rfl (Nat.le_of_ble_eq_true rfl) (Nat.zero_le _) (Nat.zero_le _) (⟨v, lo, up, rfl, ?_⟩)
    refine z_if_ne G dX1_inRange_7 rfl (tgt := 14) (by decide) (fun c_7 => ?_) (fun c_7 => ?_)
    · have c_7b := bI_t c_7
      refine z_iconst G dX1_inRange_14 rfl (v := 0) (by decide) ?_
      refine z_iconst G dX1_inRange_15 rfl (v := 3) (by decide) ?_
      refine z_iload_n G dX1_inRange_16 rfl rfl rfl ?_
      refine z_V G dX1_inRange_17 rfl m_X1_refuse q1601 (C_X1_refuse h0) (by decide) (As := [_, _, _]) rfl rfl (Nat.le_of_ble_eq_true rfl) (Nat.le_refl _) (Nat.le_refl _) (zhas_K hp0 (zisK_raw _ _) k_X1) (⟨a, st, hi, ip, li, sv, rs, wt, fp, 3, v, false, rfl, hp0, fun hb => z_vret G dX1_inRange_20 rfl (hK0 c_7b), fun hb r hr => zx_out G (by intro x hx; cases hx) (hK1 (by cases hb) r hr)⟩)
    · have c_7b := bI_f c_7
      refine z_iconst G dX1_inRange_10 rfl (v := 1) (by decide) ?_
      refine z_goto G dX1_inRange_11 (tgt := 15) (by decide) ?_
      refine z_iconst G dX1_inRange_15 rfl (v := 3) (by decide) ?_
      refine z_iload_n G dX1_inRange_16 rfl rfl rfl ?_
      refine z_V G dX1_inRange_17 rfl m_X1_refuse q1601 (C_X1_refuse h0) (by decide) (As := [_, _, _]) rfl rfl (Nat.le_of_ble_eq_true rfl) (Nat.le_refl _) (Nat.le_refl _) (zhas_K hp0 (zisK_raw _ _) k_X1) (⟨a, st, hi, ip, li, sv, rs, wt, fp, 3, v, true, rfl, hp0, fun hb => z_vret G dX1_inRange_20 rfl (hK0 (by cases hb)), fun hb r hr => zx_out G (by intro x hx; cases hx) (hK1 c_7b r hr)⟩)
