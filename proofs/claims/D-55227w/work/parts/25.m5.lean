/-! THE REFERENCE: smoking, dropping, cutting, parrots -/
def T_X3_smoke : List Value → Hp → (Res → Hp → Prop) → Prop := fun av g K => ∃ (A : Nat → Nat) (S : Nat → Int32) (F : Nat → Nat → Int32) (w : Nat → Int32) (g0 : Hp) (c f : Nat) (p : Int32) (nb pn : Nat), mok A ∧ g = mdl A S F w g0 ∧ av = [.ref (A 0), .int p] ∧ S 11 = nI c ∧ c ≤ 8 ∧ S 12 = nI f ∧ f < 8 ∧ w 3 = nI nb ∧ nb ≤ 10 ∧ (isP w p = true → p = nI pn ∧ pn < 10) ∧ (o_smk w p nb pn = none → p = nI pn ∧ pn < 10) ∧ (∀ y, o_smk w p nb pn = some y → K (.inl (some (.int 0))) (mdl A (upd (nS (upd S 0 0) (some y)) 0 1) (m_ref (nS (upd S 0 0) (some y)) F) w g0)) ∧ (o_smk w p nb pn = none → K (.inl (some (.int (pw (r_smk w pn) pn 2)))) (mdl A (m_kmS (upd S 0 0) c f) (m_rem F w c f upA) (r_smk w pn) g0))
theorem C_X3_smoke {l : Launch} {s0 : State} (h0 : St0 l s0) : Ctr l s0 yX3_smoke (ws_ yX3_smoke cX3_smoke 2 (Option.some Jvm.ClassFile.FieldType.int)) 4 0 0 T_X3_smoke := by
  refine ctr_of h0 (by decide) ?_ ?_
  · rintro av g K ⟨A, S, F, w, g0, c, f, p, nb, pn, hA, rfl, rfl, hc0, hc1, hc2, hc3, hp0, hp1, hp2, hp3, hR, hK⟩
    exact Nat.le_of_ble_eq_true rfl
  · rintro Z X av g K G ⟨A, S, F, w, g0, c, f, p, nb, pn, hA, rfl, rfl, hc0, hc1, hc2, hc3, hp0, hp1, hp2, hp3, hR, hK⟩
    show Z 0 [some (.ref (A 0)), some (.int p)] [] _ _ _
    refine z_aload_n G dX3_smoke_0 rfl rfl rfl ?_
    refine z_iconst G dX3_smoke_1 rfl (v := 0) (by decide) ?_
    refine mz_put G hA dX3_smoke_2 rfl (j := 0) fl_X3_42_2p rfl rfl (by decide) rfl ?_
    refine z_aload_n G dX3_smoke_5 rfl rfl rfl ?_
    refine z_iload_n G dX3_smoke_6 rfl rfl rfl ?_
    refine z_V G dX3_smoke_7 rfl m_X3_notSmoke q2843 (C_X3_notSmoke h0) (by decide) (As := [_]) rfl rfl (Nat.le_of_ble_eq_true rfl) (Nat.zero_le _) (Nat.zero_le _) (mhas hA) (⟨_, _, _, _, _, p, nb, pn, hA, rfl, rfl, hp0, hp1, hp2, ?_⟩)
    refine z_if_eq G dX3_smoke_10 rfl (tgt := 18) (by decide) (fun c_10 => ?_) (fun c_10 => ?_)
    · have ho := nrv_0 c_10
      rw [ho]
      obtain ⟨rfl, hq⟩ := hp3 ho
      refine z_aload_n G dX3_smoke_18 rfl rfl rfl ?_
      refine z_V G dX3_smoke_19 rfl m_X3_remembers q2687 (C_X3_remembers h0) (by decide) (As := []) rfl rfl (Nat.le_of_ble_eq_true rfl) (Nat.zero_le _) (Nat.zero_le _) (mhas hA) (⟨_, _, _, _, _, _, _, hA, rfl, rfl, (by first | assumption | decide | omega), (by first | assumption | decide | omega), (by first | assumption | decide | omega), (by first | assumption | decide | omega), ?_⟩)
      refine z_aload_n G dX3_smoke_22 rfl rfl rfl ?_
      refine z_iload_n G dX3_smoke_23 rfl rfl rfl ?_
      refine z_V G dX3_smoke_24 rfl m_X3_smokesOnce q2851 (C_X3_smokesOnce h0) (by decide) (As := [_]) rfl rfl (Nat.le_of_ble_eq_true rfl) (Nat.zero_le _) (Nat.zero_le _) (mhas hA) (⟨_, _, _, _, _, _, hA, rfl, rfl, (by first | assumption | decide | omega), ?_⟩)
      exact z_iret G dX3_smoke_27 rfl rfl (hK ho)
    · obtain ⟨y, hy⟩ := nrv_n c_10
      rw [hy]
      refine z_aload_n G dX3_smoke_13 rfl rfl rfl ?_
      refine z_V G dX3_smoke_14 rfl m_X3_refuses q2675 (C_X3_refuses h0) (by decide) (As := []) rfl rfl (Nat.le_of_ble_eq_true rfl) (Nat.zero_le _) (Nat.zero_le _) (mhas hA) (⟨_, _, _, _, _, hA, rfl, rfl, ?_⟩)
      exact z_iret G dX3_smoke_17 rfl rfl (hR y hy)
def T_X3_notDrop : List Value → Hp → (Res → Hp → Prop) → Prop := fun av g K => ∃ (A : Nat → Nat) (S : Nat → Int32) (F : Nat → Nat → Int32) (w : Nat → Int32) (g0 : Hp) (p ht : Int32), mok A ∧ g = mdl A S F w g0 ∧ av = [.ref (A 0), .int p, .int ht] ∧ K (.inl (some (.int (nrv (o_drp w p ht))))) (mdl A (nS S (o_drp w p ht)) F w g0)
theorem C_X3_notDrop {l : Launch} {s0 : State} (h0 : St0 l s0) : Ctr l s0 yX3_notDrop (ws_ yX3_notDrop cX3_notDrop 3 (Option.some Jvm.ClassFile.FieldType.int)) 3 0 0 T_X3_notDrop := by
  refine ctr_of h0 (by decide) ?_ ?_
  · rintro av g K ⟨A, S, F, w, g0, p, ht, hA, rfl, rfl, hK⟩
    exact Nat.le_of_ble_eq_true rfl
  · rintro Z X av g K G ⟨A, S, F, w, g0, p, ht, hA, rfl, rfl, hK⟩
    show Z 0 [some (.ref (A 0)), some (.int p), some (.int ht)] [] _ _ _
    refine z_aload_n G dX3_notDrop_0 rfl rfl rfl ?_
    refine z_iload_n G dX3_notDrop_1 rfl rfl rfl ?_
    refine z_V G dX3_notDrop_2 rfl m_X3_isPipe q2711 (C_X3_isPipe h0) (by decide) (As := [_]) rfl rfl (Nat.le_of_ble_eq_true rfl) (Nat.zero_le _) (Nat.zero_le _) (mhas hA) (⟨_, _, _, _, _, _, hA, rfl, rfl, ?_⟩)
    refine z_if_ne G dX3_notDrop_5 rfl (tgt := 15) (by decide) (fun c_5 => ?_) (fun c_5 => ?_)
    · have c_5b := bI_t c_5
      refine z_iload_n G dX3_notDrop_15 rfl rfl rfl ?_
      refine z_iconst G dX3_notDrop_16 rfl (v := 1) (by decide) ?_
      refine z_bipush G dX3_notDrop_17 rfl (v := 9) (by decide) ?_
      refine z_S G dX3_notDrop_19 rfl m_X3_isBetween q2668 (C_X3_isBetween h0) (by decide) (As := [_, _, _]) rfl rfl (Nat.le_of_ble_eq_true rfl) (Nat.zero_le _) (Nat.zero_le _) (⟨_, _, _, rfl, ?_⟩)
      refine z_if_eq G dX3_notDrop_22 rfl (tgt := 29) (by decide) (fun c_22 => ?_) (fun c_22 => ?_)
      · have c_22b := bI_f c_22
        refine z_aload_n G dX3_notDrop_29 rfl rfl rfl ?_
        refine z_iconst G dX3_notDrop_30 rfl (v := 3) (by decide) ?_
        refine z_iload_n G dX3_notDrop_31 rfl rfl rfl ?_
        refine z_V G dX3_notDrop_32 rfl m_X3_isNot q2671 (C_X3_isNot h0) (by decide) (As := [_, _]) rfl rfl (Nat.le_of_ble_eq_true rfl) (Nat.zero_le _) (Nat.zero_le _) (mhas hA) (⟨_, _, _, _, _, _, _, hA, rfl, rfl, ?_⟩)
        exact z_iret G dX3_notDrop_35 rfl rfl (by simpa [o_drp, isP, c_5, c_5b, c_22, c_22b, nrv, nS] using hK)
      · have c_22b := bI_t c_22
        refine z_iconst G dX3_notDrop_25 rfl (v := 0) (by decide) ?_
        refine z_goto G dX3_notDrop_26 (tgt := 35) (by decide) ?_
        exact z_iret G dX3_notDrop_35 rfl rfl (by simpa [o_drp, isP, c_5, c_5b, c_22, c_22b, nrv, nS] using hK)
    · have c_5b := bI_f c_5
      refine z_aload_n G dX3_notDrop_8 rfl rfl rfl ?_
      refine z_iconst G dX3_notDrop_9 rfl (v := 1) (by decide) ?_
      refine z_iload_n G dX3_notDrop_10 rfl rfl rfl ?_
      refine z_V G dX3_notDrop_11 rfl m_X3_isNot q2671 (C_X3_isNot h0) (by decide) (As := [_, _]) rfl rfl (Nat.le_of_ble_eq_true rfl) (Nat.zero_le _) (Nat.zero_le _) (mhas hA) (⟨_, _, _, _, _, _, _, hA, rfl, rfl, ?_⟩)
      exact z_iret G dX3_notDrop_14 rfl rfl (by simpa [o_drp, isP, c_5, c_5b, nrv, nS] using hK)
def T_X3_drop : List Value → Hp → (Res → Hp → Prop) → Prop := fun av g K => ∃ (A : Nat → Nat) (S : Nat → Int32) (F : Nat → Nat → Int32) (w : Nat → Int32) (g0 : Hp) (c f : Nat) (p ht : Int32) (pn hn : Nat), mok A ∧ g = mdl A S F w g0 ∧ av = [.ref (A 0), .int p, .int ht] ∧ S 11 = nI c ∧ c ≤ 8 ∧ S 12 = nI f ∧ f < 8 ∧ (o_drp w p ht = none → p = nI pn ∧ pn < 10 ∧ ht = nI hn ∧ hn ≤ 9) ∧ (∀ y, o_drp w p ht = some y → K (.inl (some (.int 0))) (mdl A (upd (nS (upd S 0 0) (some y)) 0 1) (m_ref (nS (upd S 0 0) (some y)) F) w g0)) ∧ (o_drp w p ht = none → K (.inl (some (.int (pw (r_drp w pn hn) pn 1)))) (mdl A (m_kmS (upd S 0 0) c f) (m_rem F w c f upA) (r_drp w pn hn) g0))
theorem C_X3_drop {l : Launch} {s0 : State} (h0 : St0 l s0) : Ctr l s0 yX3_drop (ws_ yX3_drop cX3_drop 3 (Option.some Jvm.ClassFile.FieldType.int)) 4 0 0 T_X3_drop := by
  refine ctr_of h0 (by decide) ?_ ?_
  · rintro av g K ⟨A, S, F, w, g0, c, f, p, ht, pn, hn, hA, rfl, rfl, hc0, hc1, hc2, hc3, hp0, hR, hK⟩
    exact Nat.le_of_ble_eq_true rfl
  · rintro Z X av g K G ⟨A, S, F, w, g0, c, f, p, ht, pn, hn, hA, rfl, rfl, hc0, hc1, hc2, hc3, hp0, hR, hK⟩
    show Z 0 [some (.ref (A 0)), some (.int p), some (.int ht)] [] _ _ _
    refine z_aload_n G dX3_drop_0 rfl rfl rfl ?_
    refine z_iconst G dX3_drop_1 rfl (v := 0) (by decide) ?_
    refine mz_put G hA dX3_drop_2 rfl (j := 0) fl_X3_42_2p rfl rfl (by decide) rfl ?_
    refine z_aload_n G dX3_drop_5 rfl rfl rfl ?_
    refine z_iload_n G dX3_drop_6 rfl rfl rfl ?_
    refine z_iload_n G dX3_drop_7 rfl rfl rfl ?_
    refine z_V G dX3_drop_8 rfl m_X3_notDrop q2862 (C_X3_notDrop h0) (by decide) (As := [_, _]) rfl rfl (Nat.le_of_ble_eq_true rfl) (Nat.zero_le _) (Nat.zero_le _) (mhas hA) (⟨_, _, _, _, _, _, _, hA, rfl, rfl, ?_⟩)
    refine z_if_eq G dX3_drop_11 rfl (tgt := 19) (by decide) (fun c_11 => ?_) (fun c_11 => ?_)
    · have ho := nrv_0 c_11
      rw [ho]
      obtain ⟨rfl, hq, rfl, hq2⟩ := hp0 ho
      refine z_aload_n G dX3_drop_19 rfl rfl rfl ?_
      refine z_V G dX3_drop_20 rfl m_X3_remembers q2687 (C_X3_remembers h0) (by decide) (As := []) rfl rfl (Nat.le_of_ble_eq_true rfl) (Nat.zero_le _) (Nat.zero_le _) (mhas hA) (⟨_, _, _, _, _, _, _, hA, rfl, rfl, (by first | assumption | decide | omega), (by first | assumption | decide | omega), (by first | assumption | decide | omega), (by first | assumption | decide | omega), ?_⟩)
      refine z_aload_n G dX3_drop_23 rfl rfl rfl ?_
      refine z_iload_n G dX3_drop_24 rfl rfl rfl ?_
      refine z_iload_n G dX3_drop_25 rfl rfl rfl ?_
      refine z_V G dX3_drop_26 rfl m_X3_drops q2866 (C_X3_drops h0) (by decide) (As := [_, _]) rfl rfl (Nat.le_of_ble_eq_true rfl) (Nat.zero_le _) (Nat.zero_le _) (mhas hA) (⟨_, _, _, _, _, _, _, hA, rfl, rfl, (by first | assumption | decide | omega), (by first | assumption | decide | omega), ?_⟩)
      exact z_iret G dX3_drop_29 rfl rfl (hK ho)
    · obtain ⟨y, hy⟩ := nrv_n c_11
      rw [hy]
      refine z_aload_n G dX3_drop_14 rfl rfl rfl ?_
      refine z_V G dX3_drop_15 rfl m_X3_refuses q2675 (C_X3_refuses h0) (by decide) (As := []) rfl rfl (Nat.le_of_ble_eq_true rfl) (Nat.zero_le _) (Nat.zero_le _) (mhas hA) (⟨_, _, _, _, _, hA, rfl, rfl, ?_⟩)
      exact z_iret G dX3_drop_18 rfl rfl (hR y hy)
def T_X3_notCut : List Value → Hp → (Res → Hp → Prop) → Prop := fun av g K => ∃ (A : Nat → Nat) (S : Nat → Int32) (F : Nat → Nat → Int32) (w : Nat → Int32) (g0 : Hp) (p v : Int32) (pn : Nat), mok A ∧ g = mdl A S F w g0 ∧ av = [.ref (A 0), .int p, .int v] ∧ (isP w p = true → p = nI pn ∧ pn < 10) ∧ K (.inl (some (.int (nrv (o_cut w p v pn))))) (mdl A (nS S (o_cut w p v pn)) F w g0)
theorem C_X3_notCut {l : Launch} {s0 : State} (h0 : St0 l s0) : Ctr l s0 yX3_notCut (ws_ yX3_notCut cX3_notCut 3 (Option.some Jvm.ClassFile.FieldType.int)) 3 0 0 T_X3_notCut := by
  refine ctr_of h0 (by decide) ?_ ?_
  · rintro av g K ⟨A, S, F, w, g0, p, v, pn, hA, rfl, rfl, hp0, hK⟩
    exact Nat.le_of_ble_eq_true rfl
  · rintro Z X av g K G ⟨A, S, F, w, g0, p, v, pn, hA, rfl, rfl, hp0, hK⟩
    show Z 0 [some (.ref (A 0)), some (.int p), some (.int v)] [] _ _ _
    refine z_aload_n G dX3_notCut_0 rfl rfl rfl ?_
    refine z_iload_n G dX3_notCut_1 rfl rfl rfl ?_
    refine z_V G dX3_notCut_2 rfl m_X3_isPipe q2711 (C_X3_isPipe h0) (by decide) (As := [_]) rfl rfl (Nat.le_of_ble_eq_true rfl) (Nat.zero_le _) (Nat.zero_le _) (mhas hA) (⟨_, _, _, _, _, _, hA, rfl, rfl, ?_⟩)
    refine z_if_ne G dX3_notCut_5 rfl (tgt := 15) (by decide) (fun c_5 => ?_) (fun c_5 => ?_)
    · have c_5b := bI_t c_5
      obtain ⟨rfl, hq⟩ := hp0 c_5b
      refine z_iload_n G dX3_notCut_15 rfl rfl rfl ?_
      refine z_iconst G dX3_notCut_16 rfl (v := 1) (by decide) ?_
      refine z_bipush G dX3_notCut_17 rfl (v := 6) (by decide) ?_
      refine z_S G dX3_notCut_19 rfl m_X3_isBetween q2668 (C_X3_isBetween h0) (by decide) (As := [_, _, _]) rfl rfl (Nat.le_of_ble_eq_true rfl) (Nat.zero_le _) (Nat.zero_le _) (⟨_, _, _, rfl, ?_⟩)
      refine z_if_ne G dX3_notCut_22 rfl (tgt := 32) (by decide) (fun c_22 => ?_) (fun c_22 => ?_)
      · have c_22b := bI_t c_22
        refine z_aload_n G dX3_notCut_32 rfl rfl rfl ?_
        refine z_iload_n G dX3_notCut_33 rfl rfl rfl ?_
        refine z_iconst G dX3_notCut_34 rfl (v := 0) (by decide) ?_
        refine z_V G dX3_notCut_35 rfl m_X3_of q2751 (C_X3_of h0) (by decide) (As := [_, _]) rfl rfl (Nat.le_of_ble_eq_true rfl) (Nat.zero_le _) (Nat.zero_le _) (mhas hA) (⟨_, _, _, _, _, _, _, hA, rfl, rfl, (by first | assumption | decide | omega), (by first | assumption | decide | omega), ?_⟩)
        refine z_iload_n G dX3_notCut_38 rfl rfl rfl ?_
        refine z_icmp_ge G dX3_notCut_39 rfl (tgt := 55) (by decide) (fun c_39 => ?_) (fun c_39 => ?_)
        · have c_39n := Int32.not_lt.mpr c_39
          refine z_aload_n G dX3_notCut_55 rfl rfl rfl ?_
          refine z_V G dX3_notCut_56 rfl m_X3_piecesNow q2775 (C_X3_piecesNow h0) (by decide) (As := []) rfl rfl (Nat.le_of_ble_eq_true rfl) (Nat.zero_le _) (Nat.zero_le _) (mhas hA) (⟨_, _, _, _, _, hA, rfl, rfl, ?_⟩)
          refine z_bipush G dX3_notCut_59 rfl (v := 24) (by decide) ?_
          refine z_icmp_ne G dX3_notCut_61 rfl (tgt := 74) (by decide) (fun c_61 => ?_) (fun c_61 => ?_)
          · refine z_iconst G dX3_notCut_74 rfl (v := 0) (by decide) ?_
            exact z_iret G dX3_notCut_75 rfl rfl (by simpa [o_cut, isP, c_5, c_5b, c_22, c_22b, c_39, c_39n, c_61, nrv, nS] using hK)
          · refine z_aload_n G dX3_notCut_64 rfl rfl rfl ?_
            refine z_iconst G dX3_notCut_65 rfl (v := 4) (by decide) ?_
            refine z_bipush G dX3_notCut_66 rfl (v := 24) (by decide) ?_
            refine z_V G dX3_notCut_68 rfl m_X3_isNot q2671 (C_X3_isNot h0) (by decide) (As := [_, _]) rfl rfl (Nat.le_of_ble_eq_true rfl) (Nat.zero_le _) (Nat.zero_le _) (mhas hA) (⟨_, _, _, _, _, _, _, hA, rfl, rfl, ?_⟩)
            refine z_goto G dX3_notCut_71 (tgt := 75) (by decide) ?_
            exact z_iret G dX3_notCut_75 rfl rfl (by simpa [o_cut, isP, c_5, c_5b, c_22, c_22b, c_39, c_39n, c_61, nrv, nS] using hK)
        · have c_39n := Int32.not_le.mp c_39
          refine z_aload_n G dX3_notCut_42 rfl rfl rfl ?_
          refine z_bipush G dX3_notCut_43 rfl (v := 18) (by decide) ?_
          refine z_aload_n G dX3_notCut_45 rfl rfl rfl ?_
          refine z_iload_n G dX3_notCut_46 rfl rfl rfl ?_
          refine z_iconst G dX3_notCut_47 rfl (v := 0) (by decide) ?_
          refine z_V G dX3_notCut_48 rfl m_X3_of q2751 (C_X3_of h0) (by decide) (As := [_, _]) rfl rfl (Nat.le_of_ble_eq_true rfl) (Nat.zero_le _) (Nat.zero_le _) (mhas hA) (⟨_, _, _, _, _, _, _, hA, rfl, rfl, (by first | assumption | decide | omega), (by first | assumption | decide | omega), ?_⟩)
          refine z_V G dX3_notCut_51 rfl m_X3_isNot q2671 (C_X3_isNot h0) (by decide) (As := [_, _]) rfl rfl (Nat.le_of_ble_eq_true rfl) (Nat.zero_le _) (Nat.zero_le _) (mhas hA) (⟨_, _, _, _, _, _, _, hA, rfl, rfl, ?_⟩)
          exact z_iret G dX3_notCut_54 rfl rfl (by simpa [o_cut, isP, c_5, c_5b, c_22, c_22b, c_39, c_39n, nrv, nS] using hK)
      · have c_22b := bI_f c_22
        refine z_aload_n G dX3_notCut_25 rfl rfl rfl ?_
        refine z_iconst G dX3_notCut_26 rfl (v := 3) (by decide) ?_
        refine z_iload_n G dX3_notCut_27 rfl rfl rfl ?_
        refine z_V G dX3_notCut_28 rfl m_X3_isNot q2671 (C_X3_isNot h0) (by decide) (As := [_, _]) rfl rfl (Nat.le_of_ble_eq_true rfl) (Nat.zero_le _) (Nat.zero_le _) (mhas hA) (⟨_, _, _, _, _, _, _, hA, rfl, rfl, ?_⟩)
        exact z_iret G dX3_notCut_31 rfl rfl (by simpa [o_cut, isP, c_5, c_5b, c_22, c_22b, nrv, nS] using hK)
    · have c_5b := bI_f c_5
      refine z_aload_n G dX3_notCut_8 rfl rfl rfl ?_
      refine z_iconst G dX3_notCut_9 rfl (v := 1) (by decide) ?_
      refine z_iload_n G dX3_notCut_10 rfl rfl rfl ?_
      refine z_V G dX3_notCut_11 rfl m_X3_isNot q2671 (C_X3_isNot h0) (by decide) (As := [_, _]) rfl rfl (Nat.le_of_ble_eq_true rfl) (Nat.zero_le _) (Nat.zero_le _) (mhas hA) (⟨_, _, _, _, _, _, _, hA, rfl, rfl, ?_⟩)
      exact z_iret G dX3_notCut_14 rfl rfl (by simpa [o_cut, isP, c_5, c_5b, nrv, nS] using hK)
def T_X3_cut : List Value → Hp → (Res → Hp → Prop) → Prop := fun av g K => ∃ (A : Nat → Nat) (S : Nat → Int32) (F : Nat → Nat → Int32) (w : Nat → Int32) (g0 : Hp) (c f : Nat) (p v : Int32) (pn i : Nat), mok A ∧ g = mdl A S F w g0 ∧ av = [.ref (A 0), .int p, .int v] ∧ S 11 = nI c ∧ c ≤ 8 ∧ S 12 = nI f ∧ f < 8 ∧ (isP w p = true → p = nI pn ∧ pn < 10) ∧ (o_cut w p v pn = none → p = nI pn ∧ pn < 10 ∧ v = nI i ∧ i < 7) ∧ (∀ y, o_cut w p v pn = some y → K (.inl (some (.int 0))) (mdl A (upd (nS (upd S 0 0) (some y)) 0 1) (m_ref (nS (upd S 0 0) (some y)) F) w g0)) ∧ (o_cut w p v pn = none → K (.inl (some (.int (pw (r_cut w pn i) pn 0)))) (mdl A (m_kmS (upd S 0 0) c f) (m_rem F w c f upA) (r_cut w pn i) g0))
theorem C_X3_cut {l : Launch} {s0 : State} (h0 : St0 l s0) : Ctr l s0 yX3_cut (ws_ yX3_cut cX3_cut 3 (Option.some Jvm.ClassFile.FieldType.int)) 4 0 0 T_X3_cut := by
  refine ctr_of h0 (by decide) ?_ ?_
  · rintro av g K ⟨A, S, F, w, g0, c, f, p, v, pn, i, hA, rfl, rfl, hc0, hc1, hc2, hc3, hp0, hp1, hR, hK⟩
    exact Nat.le_of_ble_eq_true rfl
  · rintro Z X av g K G ⟨A, S, F, w, g0, c, f, p, v, pn, i, hA, rfl, rfl, hc0, hc1, hc2, hc3, hp0, hp1, hR, hK⟩
    show Z 0 [some (.ref (A 0)), some (.int p), some (.int v)] [] _ _ _
    refine z_aload_n G dX3_cut_0 rfl rfl rfl ?_
    refine z_iconst G dX3_cut_1 rfl (v := 0) (by decide) ?_
    refine mz_put G hA dX3_cut_2 rfl (j := 0) fl_X3_42_2p rfl rfl (by decide) rfl ?_
    refine z_aload_n G dX3_cut_5 rfl rfl rfl ?_
    refine z_iload_n G dX3_cut_6 rfl rfl rfl ?_
    refine z_iload_n G dX3_cut_7 rfl rfl rfl ?_
    refine z_V G dX3_cut_8 rfl m_X3_notCut q2874 (C_X3_notCut h0) (by decide) (As := [_, _]) rfl rfl (Nat.le_of_ble_eq_true rfl) (Nat.zero_le _) (Nat.zero_le _) (mhas hA) (⟨_, _, _, _, _, p, v, pn, hA, rfl, rfl, hp0, ?_⟩)
    refine z_if_eq G dX3_cut_11 rfl (tgt := 19) (by decide) (fun c_11 => ?_) (fun c_11 => ?_)
    · have ho := nrv_0 c_11
      rw [ho]
      obtain ⟨rfl, hq, rfl, hq2⟩ := hp1 ho
      refine z_aload_n G dX3_cut_19 rfl rfl rfl ?_
      refine z_V G dX3_cut_20 rfl m_X3_remembers q2687 (C_X3_remembers h0) (by decide) (As := []) rfl rfl (Nat.le_of_ble_eq_true rfl) (Nat.zero_le _) (Nat.zero_le _) (mhas hA) (⟨_, _, _, _, _, _, _, hA, rfl, rfl, (by first | assumption | decide | omega), (by first | assumption | decide | omega), (by first | assumption | decide | omega), (by first | assumption | decide | omega), ?_⟩)
      refine z_aload_n G dX3_cut_23 rfl rfl rfl ?_
      refine z_iload_n G dX3_cut_24 rfl rfl rfl ?_
      refine z_iconst G dX3_cut_25 rfl (v := 0) (by decide) ?_
      refine z_aload_n G dX3_cut_26 rfl rfl rfl ?_
      refine z_iload_n G dX3_cut_27 rfl rfl rfl ?_
      refine z_iconst G dX3_cut_28 rfl (v := 0) (by decide) ?_
      refine z_V G dX3_cut_29 rfl m_X3_of q2751 (C_X3_of h0) (by decide) (As := [_, _]) rfl rfl (Nat.le_of_ble_eq_true rfl) (Nat.zero_le _) (Nat.zero_le _) (mhas hA) (⟨_, _, _, _, _, _, _, hA, rfl, rfl, (by first | assumption | decide | omega), (by first | assumption | decide | omega), ?_⟩)
      refine z_iload_n G dX3_cut_32 rfl rfl rfl ?_
      refine z_isub G dX3_cut_33 rfl ?_
      refine z_V G dX3_cut_34 rfl m_X3_sets q2699 (C_X3_sets h0) (by decide) (As := [_, _, _]) rfl rfl (Nat.le_of_ble_eq_true rfl) (Nat.zero_le _) (Nat.zero_le _) (mhas hA) (⟨_, _, _, _, _, _, _, _, hA, rfl, rfl, (by first | assumption | decide | omega), (by first | assumption | decide | omega), ?_⟩)
      refine z_aload_n G dX3_cut_37 rfl rfl rfl ?_
      refine z_iload_n G dX3_cut_38 rfl rfl rfl ?_
      refine z_V G dX3_cut_39 rfl m_X3_pieceComes q2779 (C_X3_pieceComes h0) (by decide) (As := [_]) rfl rfl (Nat.le_of_ble_eq_true rfl) (Nat.zero_le _) (Nat.zero_le _) (mhas hA) (⟨_, _, _, _, _, _, hA, rfl, rfl, (by first | assumption | decide | omega), ?_⟩)
      refine z_pop G dX3_cut_42 rfl rfl ?_
      refine z_aload_n G dX3_cut_43 rfl rfl rfl ?_
      refine z_iload_n G dX3_cut_44 rfl rfl rfl ?_
      refine z_iconst G dX3_cut_45 rfl (v := 0) (by decide) ?_
      refine z_V G dX3_cut_46 rfl m_X3_of q2751 (C_X3_of h0) (by decide) (As := [_, _]) rfl rfl (Nat.le_of_ble_eq_true rfl) (Nat.zero_le _) (Nat.zero_le _) (mhas hA) (⟨_, _, _, _, _, _, _, hA, rfl, rfl, (by first | assumption | decide | omega), (by first | assumption | decide | omega), ?_⟩)
      exact z_iret G dX3_cut_49 rfl rfl (hK ho)
    · obtain ⟨y, hy⟩ := nrv_n c_11
      rw [hy]
      refine z_aload_n G dX3_cut_14 rfl rfl rfl ?_
      refine z_V G dX3_cut_15 rfl m_X3_refuses q2675 (C_X3_refuses h0) (by decide) (As := []) rfl rfl (Nat.le_of_ble_eq_true rfl) (Nat.zero_le _) (Nat.zero_le _) (mhas hA) (⟨_, _, _, _, _, hA, rfl, rfl, ?_⟩)
      exact z_iret G dX3_cut_18 rfl rfl (hR y hy)
def T_X3_wouldDraw : List Value → Hp → (Res → Hp → Prop) → Prop := fun av g K => ∃ (A : Nat → Nat) (S : Nat → Int32) (F : Nat → Nat → Int32) (w : Nat → Int32) (g0 : Hp) (p ht : Int32) (pn hn : Nat), mok A ∧ g = mdl A S F w g0 ∧ av = [.ref (A 0), .int p, .int ht] ∧ (isP w p = true → p = nI pn ∧ pn < 10) ∧ (btw ht 1 9 = true → ht = nI hn ∧ hn ≤ 9) ∧ (isP w p = false → K (.inl (some (.int 0))) (mdl A (upd S 0 1) F w g0)) ∧ (isP w p = true → btw ht 1 9 = false → K (.inl (some (.int 0))) (mdl A (upd S 0 2) F w g0)) ∧ (isP w p = true → btw ht 1 9 = true → K (.inl (some (.int (bI (decide (r_why (r_drp w pn hn) pn < 0)))))) (mdl A (upd S 0 0) (upA F 10 (va_cpy w (F 10) 0 0 99)) w g0))
theorem C_X3_wouldDraw {l : Launch} {s0 : State} (h0 : St0 l s0) : Ctr l s0 yX3_wouldDraw (ws_ yX3_wouldDraw cX3_wouldDraw 4 (Option.some Jvm.ClassFile.FieldType.boolean)) 3 0 0 T_X3_wouldDraw := by
  refine ctr_of h0 (by decide) ?_ ?_
  · rintro av g K ⟨A, S, F, w, g0, p, ht, pn, hn, hA, rfl, rfl, hp0, hp1, hK0, hK1, hK2⟩
    exact Nat.le_of_ble_eq_true rfl
  · rintro Z X av g K G ⟨A, S, F, w, g0, p, ht, pn, hn, hA, rfl, rfl, hp0, hp1, hK0, hK1, hK2⟩
    show Z 0 [some (.ref (A 0)), some (.int p), some (.int ht), none] [] _ _ _
    refine z_aload_n G dX3_wouldDraw_0 rfl rfl rfl ?_
    refine z_iconst G dX3_wouldDraw_1 rfl (v := 0) (by decide) ?_
    refine mz_put G hA dX3_wouldDraw_2 rfl (j := 0) fl_X3_42_2p rfl rfl (by decide) rfl ?_
    refine z_aload_n G dX3_wouldDraw_5 rfl rfl rfl ?_
    refine z_iload_n G dX3_wouldDraw_6 rfl rfl rfl ?_
    refine z_V G dX3_wouldDraw_7 rfl m_X3_isPipe q2711 (C_X3_isPipe h0) (by decide) (As := [_]) rfl rfl (Nat.le_of_ble_eq_true rfl) (Nat.zero_le _) (Nat.zero_le _) (mhas hA) (⟨_, _, _, _, _, _, hA, rfl, rfl, ?_⟩)
    refine z_if_ne G dX3_wouldDraw_10 rfl (tgt := 27) (by decide) (fun c_10 => ?_) (fun c_10 => ?_)
    · have c_10b := bI_t c_10
      have hq1 := c_10b
      obtain ⟨rfl, hq⟩ := hp0 c_10b
      refine z_iload_n G dX3_wouldDraw_27 rfl rfl rfl ?_
      refine z_iconst G dX3_wouldDraw_28 rfl (v := 1) (by decide) ?_
      refine z_bipush G dX3_wouldDraw_29 rfl (v := 9) (by decide) ?_
      refine z_S G dX3_wouldDraw_31 rfl m_X3_isBetween q2668 (C_X3_isBetween h0) (by decide) (As := [_, _, _]) rfl rfl (Nat.le_of_ble_eq_true rfl) (Nat.zero_le _) (Nat.zero_le _) (⟨_, _, _, rfl, ?_⟩)
      refine z_if_ne G dX3_wouldDraw_34 rfl (tgt := 51) (by decide) (fun c_34 => ?_) (fun c_34 => ?_)
      · have c_34b := bI_t c_34
        have hq2 := c_34b
        obtain ⟨rfl, hq3⟩ := hp1 c_34b
        have hcp : ∀ k, 99 ≤ k → (r_drp w pn hn) k = w k := fun k hk => by unfold r_drp r_dr1; rw [upd_n (by omega), upd_n (by omega)]
        refine z_aload_n G dX3_wouldDraw_51 rfl rfl rfl ?_
        refine z_V G dX3_wouldDraw_52 rfl m_X3_thinks q2691 (C_X3_thinks h0) (by decide) (As := []) rfl rfl (Nat.le_of_ble_eq_true rfl) (Nat.zero_le _) (Nat.zero_le _) (mhas hA) (⟨_, _, _, _, _, hA, rfl, rfl, ?_⟩)
        refine z_aload_n G dX3_wouldDraw_55 rfl rfl rfl ?_
        refine z_iload_n G dX3_wouldDraw_56 rfl rfl rfl ?_
        refine z_iload_n G dX3_wouldDraw_57 rfl rfl rfl ?_
        refine z_V G dX3_wouldDraw_58 rfl m_X3_drops q2866 (C_X3_drops h0) (by decide) (As := [_, _]) rfl rfl (Nat.le_of_ble_eq_true rfl) (Nat.zero_le _) (Nat.zero_le _) (mhas hA) (⟨_, _, _, _, _, _, _, hA, rfl, rfl, (by first | assumption | decide | omega), (by first | assumption | decide | omega), ?_⟩)
        refine z_pop G dX3_wouldDraw_61 rfl rfl ?_
        refine z_aload_n G dX3_wouldDraw_62 rfl rfl rfl ?_
        refine z_iload_n G dX3_wouldDraw_63 rfl rfl rfl ?_
        refine z_V G dX3_wouldDraw_64 rfl m_X3_whyNot q2847 (C_X3_whyNot h0) (by decide) (As := [_]) rfl rfl (Nat.le_of_ble_eq_true rfl) (Nat.zero_le _) (Nat.zero_le _) (mhas hA) (⟨_, _, _, _, _, _, hA, rfl, rfl, (by first | assumption | decide | omega), ?_⟩)
        refine z_if_ge G dX3_wouldDraw_67 rfl (tgt := 74) (by decide) (fun c_67 => ?_) (fun c_67 => ?_)
        · have c_67n := Int32.not_lt.mpr c_67
          refine z_iconst G dX3_wouldDraw_74 rfl (v := 0) (by decide) ?_
          refine z_istore_n G dX3_wouldDraw_75 rfl (i := 3) rfl (by decide) (zcat_s rfl) (show Z 76 [_, _, _, _] _ _ _ _ from ?_)
          refine z_aload_n G dX3_wouldDraw_76 rfl rfl rfl ?_
          refine z_V G dX3_wouldDraw_77 rfl m_X3_forgets q2882 (C_X3_forgets h0) (by decide) (As := []) rfl rfl (Nat.le_of_ble_eq_true rfl) (Nat.zero_le _) (Nat.zero_le _) (mhas hA) (⟨_, _, _, _, _, hA, rfl, rfl, ?_⟩)
          refine z_iload_n G dX3_wouldDraw_80 rfl rfl rfl ?_
          exact z_iret G dX3_wouldDraw_81 rfl rfl (by rw [upA_s, cpy_back hcp]; simpa [bI, c_10, c_10b, c_34, c_34b, c_67, c_67n] using hK2 hq1 hq2)
        · have c_67n := Int32.not_le.mp c_67
          refine z_iconst G dX3_wouldDraw_70 rfl (v := 1) (by decide) ?_
          refine z_goto G dX3_wouldDraw_71 (tgt := 75) (by decide) ?_
          refine z_istore_n G dX3_wouldDraw_75 rfl (i := 3) rfl (by decide) (zcat_s rfl) (show Z 76 [_, _, _, _] _ _ _ _ from ?_)
          refine z_aload_n G dX3_wouldDraw_76 rfl rfl rfl ?_
          refine z_V G dX3_wouldDraw_77 rfl m_X3_forgets q2882 (C_X3_forgets h0) (by decide) (As := []) rfl rfl (Nat.le_of_ble_eq_true rfl) (Nat.zero_le _) (Nat.zero_le _) (mhas hA) (⟨_, _, _, _, _, hA, rfl, rfl, ?_⟩)
          refine z_iload_n G dX3_wouldDraw_80 rfl rfl rfl ?_
          exact z_iret G dX3_wouldDraw_81 rfl rfl (by rw [upA_s, cpy_back hcp]; simpa [bI, c_10, c_10b, c_34, c_34b, c_67, c_67n] using hK2 hq1 hq2)
      · have c_34b := bI_f c_34
        refine z_aload_n G dX3_wouldDraw_37 rfl rfl rfl ?_
        refine z_iconst G dX3_wouldDraw_38 rfl (v := 2) (by decide) ?_
        refine z_V G dX3_wouldDraw_39 rfl m_X3_fails q2683 (C_X3_fails h0) (by decide) (As := [_]) rfl rfl (Nat.le_of_ble_eq_true rfl) (Nat.zero_le _) (Nat.zero_le _) (mhas hA) (⟨_, _, _, _, _, _, hA, rfl, rfl, ?_⟩)
        refine z_if_le G dX3_wouldDraw_42 rfl (tgt := 49) (by decide) (fun c_42 => ?_) (fun c_42 => ?_)
        · have c_42n := Int32.not_lt.mpr c_42
          refine z_iconst G dX3_wouldDraw_49 rfl (v := 0) (by decide) ?_
          exact z_iret G dX3_wouldDraw_50 rfl rfl (by rw [upd_upd]; exact hK1 c_10b c_34b)
        · exact absurd (by decide) c_42
    · have c_10b := bI_f c_10
      refine z_aload_n G dX3_wouldDraw_13 rfl rfl rfl ?_
      refine z_iconst G dX3_wouldDraw_14 rfl (v := 1) (by decide) ?_
      refine z_V G dX3_wouldDraw_15 rfl m_X3_fails q2683 (C_X3_fails h0) (by decide) (As := [_]) rfl rfl (Nat.le_of_ble_eq_true rfl) (Nat.zero_le _) (Nat.zero_le _) (mhas hA) (⟨_, _, _, _, _, _, hA, rfl, rfl, ?_⟩)
      refine z_if_le G dX3_wouldDraw_18 rfl (tgt := 25) (by decide) (fun c_18 => ?_) (fun c_18 => ?_)
      · have c_18n := Int32.not_lt.mpr c_18
        refine z_iconst G dX3_wouldDraw_25 rfl (v := 0) (by decide) ?_
        exact z_iret G dX3_wouldDraw_26 rfl rfl (by rw [upd_upd]; exact hK0 c_10b)
      · exact absurd (by decide) c_18
def T_X3_mostSmoked : List Value → Hp → (Res → Hp → Prop) → Prop := fun av g K => ∃ (A : Nat → Nat) (S : Nat → Int32) (F : Nat → Nat → Int32) (w : Nat → Int32) (g0 : Hp) (np : Nat), mok A ∧ g = mdl A S F w g0 ∧ av = [.ref (A 0)] ∧ w 2 = nI np ∧ np ≤ 10 ∧ (np = 0 → K (.inl (some (.int 0))) (mdl A (upd S 0 1) F w g0)) ∧ (¬ np = 0 → K (.inl (some (.int (nI (r_mst w np))))) (mdl A (upd S 0 0) F w g0))
theorem C_X3_mostSmoked {l : Launch} {s0 : State} (h0 : St0 l s0) : Ctr l s0 yX3_mostSmoked (ws_ yX3_mostSmoked cX3_mostSmoked 3 (Option.some Jvm.ClassFile.FieldType.int)) 2 0 0 T_X3_mostSmoked := by
  refine ctr_of h0 (by decide) ?_ ?_
  · rintro av g K ⟨A, S, F, w, g0, np, hA, rfl, rfl, hp0, hp1, hK0, hK1⟩
    exact Nat.le_of_ble_eq_true rfl
  · rintro Z X av g K G ⟨A, S, F, w, g0, np, hA, rfl, rfl, hp0, hp1, hK0, hK1⟩
    show Z 0 [some (.ref (A 0)), none, none] [] _ _ _
    refine z_aload_n G dX3_mostSmoked_0 rfl rfl rfl ?_
    refine z_iconst G dX3_mostSmoked_1 rfl (v := 0) (by decide) ?_
    refine mz_put G hA dX3_mostSmoked_2 rfl (j := 0) fl_X3_42_2p rfl rfl (by decide) rfl ?_
    refine z_aload_n G dX3_mostSmoked_5 rfl rfl rfl ?_
    refine mz_get G hA dX3_mostSmoked_6 rfl (j := 7) fl_X3_16_2 rfl ?_
    refine z_iconst G dX3_mostSmoked_9 rfl (v := 2) (by decide) ?_
    refine mz_wldN G hA dX3_mostSmoked_10 rfl (2) rfl (by decide) (np) hp0 ?_
    refine z_if_ne G dX3_mostSmoked_11 rfl (tgt := 20) (by decide) (fun c_11 => ?_) (fun c_11 => ?_)
    · have c_11N := (not_congr <| nI_eq (a := np) (b := 0) (by omega) (by omega)).mp c_11
      refine z_iconst G dX3_mostSmoked_20 rfl (v := 0) (by decide) ?_
      refine z_istore_n G dX3_mostSmoked_21 rfl (i := 1) rfl (by decide) (zcat_s rfl) (show Z 22 [_, _, _] _ _ _ _ from ?_)
      refine z_iconst G dX3_mostSmoked_22 rfl (v := 1) (by decide) ?_
      refine z_istore_n G dX3_mostSmoked_23 rfl (i := 2) rfl (by decide) (zcat_s rfl) (show Z 24 [_, _, _] _ _ _ _ from ?_)
      have L24 : ∀ (n i b : Nat), i + n = np → 1 ≤ i → b = r_mst w i → b < 10 → Z 24 [some (.ref (A 0)), some (.int (nI b)), some (.int (nI i))] [] (mdl A (upd S 0 0) F w g0) 0 0 := by
        intro n
        induction n with
        | zero =>
          intro i b hi h1 hb hb9
          refine z_iload_n G dX3_mostSmoked_24 rfl rfl rfl ?_
          refine z_aload_n G dX3_mostSmoked_25 rfl rfl rfl ?_
          refine mz_get G hA dX3_mostSmoked_26 rfl (j := 7) fl_X3_16_2 rfl ?_
          refine z_iconst G dX3_mostSmoked_29 rfl (v := 2) (by decide) ?_
          refine mz_wldN G hA dX3_mostSmoked_30 rfl (2) rfl (by decide) (np) hp0 ?_
          refine z_icmp_ge G dX3_mostSmoked_31 rfl (tgt := 61) (by decide) (fun c_31 => ?_) (fun c_31 => ?_)
          · have c_31n := Int32.not_lt.mpr c_31
            have c_31N := (nI_leI (a := np) (b := i) (by omega) (by omega)).mp c_31
            refine z_iload_n G dX3_mostSmoked_61 rfl rfl rfl ?_
            exact z_iret G dX3_mostSmoked_62 rfl rfl (by obtain rfl : i = np := (by omega); rw [hb]; exact hK1 c_11N)
          · exact absurd ((not_congr <| nI_leI (a := np) (b := i) (by omega) (by omega)).mp c_31) (by omega)
        | succ n ih =>
          intro i b hi h1 hb hb9
          refine z_iload_n G dX3_mostSmoked_24 rfl rfl rfl ?_
          refine z_aload_n G dX3_mostSmoked_25 rfl rfl rfl ?_
          refine mz_get G hA dX3_mostSmoked_26 rfl (j := 7) fl_X3_16_2 rfl ?_
          refine z_iconst G dX3_mostSmoked_29 rfl (v := 2) (by decide) ?_
          refine mz_wldN G hA dX3_mostSmoked_30 rfl (2) rfl (by decide) (np) hp0 ?_
          refine z_icmp_ge G dX3_mostSmoked_31 rfl (tgt := 61) (by decide) (fun c_31 => ?_) (fun c_31 => ?_)
          · exact absurd ((nI_leI (a := np) (b := i) (by omega) (by omega)).mp c_31) (by omega)
          · have c_31n := Int32.not_le.mp c_31
            have c_31N := (not_congr <| nI_leI (a := np) (b := i) (by omega) (by omega)).mp c_31
            refine z_aload_n G dX3_mostSmoked_34 rfl rfl rfl ?_
            refine z_iload_n G dX3_mostSmoked_35 rfl rfl rfl ?_
            refine z_iconst G dX3_mostSmoked_36 rfl (v := 4) (by decide) ?_
            refine z_V G dX3_mostSmoked_37 rfl m_X3_of q2751 (C_X3_of h0) (by decide) (As := [_, _]) rfl rfl (Nat.le_of_ble_eq_true rfl) (Nat.zero_le _) (Nat.zero_le _) (mhas hA) (⟨_, _, _, _, _, _, _, hA, rfl, rfl, (by first | assumption | decide | omega), (by first | assumption | decide | omega), ?_⟩)
            refine z_aload_n G dX3_mostSmoked_40 rfl rfl rfl ?_
            refine z_iload_n G dX3_mostSmoked_41 rfl rfl rfl ?_
            refine z_iconst G dX3_mostSmoked_42 rfl (v := 4) (by decide) ?_
            refine z_V G dX3_mostSmoked_43 rfl m_X3_of q2751 (C_X3_of h0) (by decide) (As := [_, _]) rfl rfl (Nat.le_of_ble_eq_true rfl) (Nat.zero_le _) (Nat.zero_le _) (mhas hA) (⟨_, _, _, _, _, _, _, hA, rfl, rfl, (by first | assumption | decide | omega), (by first | assumption | decide | omega), ?_⟩)
            refine z_icmp_le G dX3_mostSmoked_46 rfl (tgt := 53) (by decide) (fun c_46 => ?_) (fun c_46 => ?_)
            · have c_46n := Int32.not_lt.mpr c_46
              refine z_iload_n G dX3_mostSmoked_53 rfl rfl rfl ?_
              refine z_istore_n G dX3_mostSmoked_54 rfl (i := 1) rfl (by decide) (zcat_s rfl) (show Z 55 [_, _, _] _ _ _ _ from ?_)
              refine z_iinc G dX3_mostSmoked_55 rfl rfl (nI_1 _) (by decide) (zcat_s rfl) (show Z 58 [_, _, _] _ _ _ _ from ?_)
              refine z_goto G dX3_mostSmoked_58 (tgt := 24) (by decide) ?_
              first | exact ih (i + 1) b (by omega) (by omega) (by rw [r_mst, ← hb, if_pos c_46]) hb9 | exact ih (i + 1) i (by omega) (by omega) (by rw [r_mst, ← hb, if_neg c_46]) (by omega)
            · have c_46n := Int32.not_le.mp c_46
              refine z_iload_n G dX3_mostSmoked_49 rfl rfl rfl ?_
              refine z_goto G dX3_mostSmoked_50 (tgt := 54) (by decide) ?_
              refine z_istore_n G dX3_mostSmoked_54 rfl (i := 1) rfl (by decide) (zcat_s rfl) (show Z 55 [_, _, _] _ _ _ _ from ?_)
              refine z_iinc G dX3_mostSmoked_55 rfl rfl (nI_1 _) (by decide) (zcat_s rfl) (show Z 58 [_, _, _] _ _ _ _ from ?_)
              refine z_goto G dX3_mostSmoked_58 (tgt := 24) (by decide) ?_
              first | exact ih (i + 1) b (by omega) (by omega) (by rw [r_mst, ← hb, if_pos c_46]) hb9 | exact ih (i + 1) i (by omega) (by omega) (by rw [r_mst, ← hb, if_neg c_46]) (by omega)
      exact L24 (np - 1) 1 0 (by omega) (by decide) (mst_1 w).symm (by decide)
    · have c_11N := (nI_eq (a := np) (b := 0) (by omega) (by omega)).mp c_11
      refine z_aload_n G dX3_mostSmoked_14 rfl rfl rfl ?_
      refine z_iconst G dX3_mostSmoked_15 rfl (v := 1) (by decide) ?_
      refine z_V G dX3_mostSmoked_16 rfl m_X3_fails q2683 (C_X3_fails h0) (by decide) (As := [_]) rfl rfl (Nat.le_of_ble_eq_true rfl) (Nat.zero_le _) (Nat.zero_le _) (mhas hA) (⟨_, _, _, _, _, _, hA, rfl, rfl, ?_⟩)
      exact z_iret G dX3_mostSmoked_19 rfl rfl (by rw [upd_upd]; exact hK0 c_11N)
def T_X3_notParrot : List Value → Hp → (Res → Hp → Prop) → Prop := fun av g K => ∃ (A : Nat → Nat) (S : Nat → Int32) (F : Nat → Nat → Int32) (w : Nat → Int32) (g0 : Hp) (p : Int32), mok A ∧ g = mdl A S F w g0 ∧ av = [.ref (A 0), .int p] ∧ K (.inl (some (.int (nrv (o_prt w p))))) (mdl A (nS S (o_prt w p)) F w g0)
theorem C_X3_notParrot {l : Launch} {s0 : State} (h0 : St0 l s0) : Ctr l s0 yX3_notParrot (ws_ yX3_notParrot cX3_notParrot 2 (Option.some Jvm.ClassFile.FieldType.int)) 3 0 0 T_X3_notParrot := by
  refine ctr_of h0 (by decide) ?_ ?_
  · rintro av g K ⟨A, S, F, w, g0, p, hA, rfl, rfl, hK⟩
    exact Nat.le_of_ble_eq_true rfl
  · rintro Z X av g K G ⟨A, S, F, w, g0, p, hA, rfl, rfl, hK⟩
    show Z 0 [some (.ref (A 0)), some (.int p)] [] _ _ _
    refine z_iload_n G dX3_notParrot_0 rfl rfl rfl ?_
    refine z_S G dX3_notParrot_1 rfl m_X3_isPerch q2898 (C_X3_isPerch h0) (by decide) (As := [_]) rfl rfl (Nat.le_of_ble_eq_true rfl) (Nat.zero_le _) (Nat.zero_le _) (⟨_, rfl, ?_⟩)
    refine z_if_ne G dX3_notParrot_4 rfl (tgt := 14) (by decide) (fun c_4 => ?_) (fun c_4 => ?_)
    · have c_4b := bI_t c_4
      refine z_aload_n G dX3_notParrot_14 rfl rfl rfl ?_
      refine z_iload_n G dX3_notParrot_15 rfl rfl rfl ?_
      refine z_V G dX3_notParrot_16 rfl m_X3_isTaken q2901 (C_X3_isTaken h0) (by decide) (As := [_]) rfl rfl (Nat.le_of_ble_eq_true rfl) (Nat.zero_le _) (Nat.zero_le _) (mhas hA) (⟨_, _, _, _, _, _, hA, rfl, rfl, ?_⟩)
      refine z_if_eq G dX3_notParrot_19 rfl (tgt := 32) (by decide) (fun c_19 => ?_) (fun c_19 => ?_)
      · have c_19b := bI_f c_19
        refine z_iconst G dX3_notParrot_32 rfl (v := 0) (by decide) ?_
        exact z_iret G dX3_notParrot_33 rfl rfl (by simpa [o_prt, isP, c_4, c_4b, c_19, c_19b, nrv, nS] using hK)
      · have c_19b := bI_t c_19
        refine z_aload_n G dX3_notParrot_22 rfl rfl rfl ?_
        refine z_bipush G dX3_notParrot_23 rfl (v := 13) (by decide) ?_
        refine z_iload_n G dX3_notParrot_25 rfl rfl rfl ?_
        refine z_V G dX3_notParrot_26 rfl m_X3_isNot q2671 (C_X3_isNot h0) (by decide) (As := [_, _]) rfl rfl (Nat.le_of_ble_eq_true rfl) (Nat.zero_le _) (Nat.zero_le _) (mhas hA) (⟨_, _, _, _, _, _, _, hA, rfl, rfl, ?_⟩)
        refine z_goto G dX3_notParrot_29 (tgt := 33) (by decide) ?_
        exact z_iret G dX3_notParrot_33 rfl rfl (by simpa [o_prt, isP, c_4, c_4b, c_19, c_19b, nrv, nS] using hK)
    · have c_4b := bI_f c_4
      refine z_aload_n G dX3_notParrot_7 rfl rfl rfl ?_
      refine z_iconst G dX3_notParrot_8 rfl (v := 2) (by decide) ?_
      refine z_iload_n G dX3_notParrot_9 rfl rfl rfl ?_
      refine z_V G dX3_notParrot_10 rfl m_X3_isNot q2671 (C_X3_isNot h0) (by decide) (As := [_, _]) rfl rfl (Nat.le_of_ble_eq_true rfl) (Nat.zero_le _) (Nat.zero_le _) (mhas hA) (⟨_, _, _, _, _, _, _, hA, rfl, rfl, ?_⟩)
      exact z_iret G dX3_notParrot_13 rfl rfl (by simpa [o_prt, isP, c_4, c_4b, nrv, nS] using hK)
def T_X3_parrot : List Value → Hp → (Res → Hp → Prop) → Prop := fun av g K => ∃ (A : Nat → Nat) (S : Nat → Int32) (F : Nat → Nat → Int32) (w : Nat → Int32) (g0 : Hp) (c f : Nat) (p : Int32), mok A ∧ g = mdl A S F w g0 ∧ av = [.ref (A 0), .int p] ∧ S 11 = nI c ∧ c ≤ 8 ∧ S 12 = nI f ∧ f < 8 ∧ (∀ y, o_prt w p = some y → K (.inl (some (.int 0))) (mdl A (upd (nS (upd S 0 0) (some y)) 0 1) (m_ref (nS (upd S 0 0) (some y)) F) w g0)) ∧ (o_prt w p = none → K (.inl (some (.int (nI (r_par (r_prt w p) 8))))) (mdl A (m_kmS (upd S 0 0) c f) (m_rem F w c f upA) (r_prt w p) g0))
theorem C_X3_parrot {l : Launch} {s0 : State} (h0 : St0 l s0) : Ctr l s0 yX3_parrot (ws_ yX3_parrot cX3_parrot 2 (Option.some Jvm.ClassFile.FieldType.int)) 4 0 0 T_X3_parrot := by
  refine ctr_of h0 (by decide) ?_ ?_
  · rintro av g K ⟨A, S, F, w, g0, c, f, p, hA, rfl, rfl, hc0, hc1, hc2, hc3, hR, hK⟩
    exact Nat.le_of_ble_eq_true rfl
  · rintro Z X av g K G ⟨A, S, F, w, g0, c, f, p, hA, rfl, rfl, hc0, hc1, hc2, hc3, hR, hK⟩
    show Z 0 [some (.ref (A 0)), some (.int p)] [] _ _ _
    refine z_aload_n G dX3_parrot_0 rfl rfl rfl ?_
    refine z_iconst G dX3_parrot_1 rfl (v := 0) (by decide) ?_
    refine mz_put G hA dX3_parrot_2 rfl (j := 0) fl_X3_42_2p rfl rfl (by decide) rfl ?_
    refine z_aload_n G dX3_parrot_5 rfl rfl rfl ?_
    refine z_iload_n G dX3_parrot_6 rfl rfl rfl ?_
    refine z_V G dX3_parrot_7 rfl m_X3_notParrot q2894 (C_X3_notParrot h0) (by decide) (As := [_]) rfl rfl (Nat.le_of_ble_eq_true rfl) (Nat.zero_le _) (Nat.zero_le _) (mhas hA) (⟨_, _, _, _, _, _, hA, rfl, rfl, ?_⟩)
    refine z_if_eq G dX3_parrot_10 rfl (tgt := 18) (by decide) (fun c_10 => ?_) (fun c_10 => ?_)
    · have ho := nrv_0 c_10
      rw [ho]
      refine z_aload_n G dX3_parrot_18 rfl rfl rfl ?_
      refine z_V G dX3_parrot_19 rfl m_X3_remembers q2687 (C_X3_remembers h0) (by decide) (As := []) rfl rfl (Nat.le_of_ble_eq_true rfl) (Nat.zero_le _) (Nat.zero_le _) (mhas hA) (⟨_, _, _, _, _, _, _, hA, rfl, rfl, (by first | assumption | decide | omega), (by first | assumption | decide | omega), (by first | assumption | decide | omega), (by first | assumption | decide | omega), ?_⟩)
      refine z_aload_n G dX3_parrot_22 rfl rfl rfl ?_
      refine mz_get G hA dX3_parrot_23 rfl (j := 7) fl_X3_16_2 rfl ?_
      refine z_bipush G dX3_parrot_26 rfl (v := 11) (by decide) ?_
      refine z_dup2_11 G dX3_parrot_28 rfl rfl rfl ?_
      refine mz_wld G hA dX3_parrot_29 rfl (11) rfl (by decide) ?_
      refine z_iconst G dX3_parrot_30 rfl (v := 1) (by decide) ?_
      refine z_iload_n G dX3_parrot_31 rfl rfl rfl ?_
      refine z_ishl G dX3_parrot_32 rfl ?_
      refine z_ior G dX3_parrot_33 rfl ?_
      refine mz_wst G hA dX3_parrot_34 rfl (11) rfl (by decide) ?_
      refine z_aload_n G dX3_parrot_35 rfl rfl rfl ?_
      refine z_V G dX3_parrot_36 rfl m_X3_parrots q2905 (C_X3_parrots h0) (by decide) (As := []) rfl rfl (Nat.le_of_ble_eq_true rfl) (Nat.zero_le _) (Nat.zero_le _) (mhas hA) (⟨_, _, _, _, _, hA, rfl, rfl, ?_⟩)
      exact z_iret G dX3_parrot_39 rfl rfl (hK ho)
    · obtain ⟨y, hy⟩ := nrv_n c_10
      rw [hy]
      refine z_aload_n G dX3_parrot_13 rfl rfl rfl ?_
      refine z_V G dX3_parrot_14 rfl m_X3_refuses q2675 (C_X3_refuses h0) (by decide) (As := []) rfl rfl (Nat.le_of_ble_eq_true rfl) (Nat.zero_le _) (Nat.zero_le _) (mhas hA) (⟨_, _, _, _, _, hA, rfl, rfl, ?_⟩)
      exact z_iret G dX3_parrot_17 rfl rfl (hR y hy)
def T_X3_nextFree : List Value → Hp → (Res → Hp → Prop) → Prop := fun av g K => ∃ (A : Nat → Nat) (S : Nat → Int32) (F : Nat → Nat → Int32) (w : Nat → Int32) (g0 : Hp) (p : Nat), mok A ∧ g = mdl A S F w g0 ∧ av = [.ref (A 0), .int (nI p)] ∧ p < 8 ∧ r_fre w ((p + 1) % 8) 8 ∧ K (.inl (some (.int (nI (r_nxt w 8 ((p + 1) % 8)))))) g
theorem C_X3_nextFree {l : Launch} {s0 : State} (h0 : St0 l s0) : Ctr l s0 yX3_nextFree (ws_ yX3_nextFree cX3_nextFree 3 (Option.some Jvm.ClassFile.FieldType.int)) 2 0 0 T_X3_nextFree := by
  refine ctr_of h0 (by decide) ?_ ?_
  · rintro av g K ⟨A, S, F, w, g0, p, hA, rfl, rfl, hp0, hp1, hK⟩
    exact Nat.le_of_ble_eq_true rfl
  · rintro Z X av g K G ⟨A, S, F, w, g0, p, hA, rfl, rfl, hp0, hp1, hK⟩
    show Z 0 [some (.ref (A 0)), some (.int (nI p)), none] [] _ _ _
    refine z_iload_n G dX3_nextFree_0 rfl rfl rfl ?_
    refine z_iconst G dX3_nextFree_1 rfl (v := 1) (by decide) ?_
    refine z_iaddN G (p) (1) rfl rfl dX3_nextFree_2 rfl ?_
    refine z_bipush G dX3_nextFree_3 rfl (v := 8) (by decide) ?_
    refine z_iremN G (p + 1) (8) rfl rfl (by omega) (by omega) (by omega) dX3_nextFree_5 rfl ?_
    refine z_istore_n G dX3_nextFree_6 rfl (i := 2) rfl (by decide) (zcat_s rfl) (show Z 7 [_, _, _] _ _ _ _ from ?_)
    have L7 : ∀ (n t : Nat), t < 8 → r_fre w t n → K (.inl (some (.int (nI (r_nxt w n t))))) (mdl A S F w g0) → Z 7 [some (.ref (A 0)), some (.int (nI p)), some (.int (nI t))] [] (mdl A S F w g0) 0 0 := by
      intro n
      induction n with
      | zero =>
        intro t ht hf hK
        obtain ⟨j, h1, -⟩ := hf
        exact absurd h1 (Nat.not_lt_zero j)
      | succ n ih =>
        intro t ht hf hK
        refine z_aload_n G dX3_nextFree_7 rfl rfl rfl ?_
        refine z_iload_n G dX3_nextFree_8 rfl rfl rfl ?_
        refine z_V G dX3_nextFree_9 rfl m_X3_isTaken q2901 (C_X3_isTaken h0) (by decide) (As := [_]) rfl rfl (Nat.le_of_ble_eq_true rfl) (Nat.zero_le _) (Nat.zero_le _) (mhas hA) (⟨_, _, _, _, _, _, hA, rfl, rfl, ?_⟩)
        refine z_if_eq G dX3_nextFree_12 rfl (tgt := 25) (by decide) (fun c_12 => ?_) (fun c_12 => ?_)
        · have c_12b := bI_f c_12
          refine z_iload_n G dX3_nextFree_25 rfl rfl rfl ?_
          exact z_iret G dX3_nextFree_26 rfl rfl (by simpa [r_nxt, c_12b] using hK)
        · have c_12b := bI_t c_12
          refine z_iload_n G dX3_nextFree_15 rfl rfl rfl ?_
          refine z_iconst G dX3_nextFree_16 rfl (v := 1) (by decide) ?_
          refine z_iaddN G (t) (1) rfl rfl dX3_nextFree_17 rfl ?_
          refine z_bipush G dX3_nextFree_18 rfl (v := 8) (by decide) ?_
          refine z_iremN G (t + 1) (8) rfl rfl (by omega) (by omega) (by omega) dX3_nextFree_20 rfl ?_
          refine z_istore_n G dX3_nextFree_21 rfl (i := 2) rfl (by decide) (zcat_s rfl) (show Z 22 [_, _, _] _ _ _ _ from ?_)
          refine z_goto G dX3_nextFree_22 (tgt := 7) (by decide) ?_
          exact ih _ (Nat.mod_lt _ (by decide)) (by obtain ⟨j, h1, h2⟩ := hf; cases j with | zero => (rw [Nat.add_zero, Nat.mod_eq_of_lt ht, c_12b] at h2; cases h2) | succ j => exact ⟨j, by omega, by rw [← h2]; congr 2; omega⟩) (by simpa [r_nxt, c_12b] using hK)
    exact L7 8 _ (Nat.mod_lt _ (by decide)) hp1 hK
def T_X3_notScare : List Value → Hp → (Res → Hp → Prop) → Prop := fun av g K => ∃ (A : Nat → Nat) (S : Nat → Int32) (F : Nat → Nat → Int32) (w : Nat → Int32) (g0 : Hp) (p : Int32), mok A ∧ g = mdl A S F w g0 ∧ av = [.ref (A 0), .int p] ∧ K (.inl (some (.int (nrv (o_scr w p))))) (mdl A (nS S (o_scr w p)) F w g0)
theorem C_X3_notScare {l : Launch} {s0 : State} (h0 : St0 l s0) : Ctr l s0 yX3_notScare (ws_ yX3_notScare cX3_notScare 2 (Option.some Jvm.ClassFile.FieldType.int)) 3 0 0 T_X3_notScare := by
  refine ctr_of h0 (by decide) ?_ ?_
  · rintro av g K ⟨A, S, F, w, g0, p, hA, rfl, rfl, hK⟩
    exact Nat.le_of_ble_eq_true rfl
  · rintro Z X av g K G ⟨A, S, F, w, g0, p, hA, rfl, rfl, hK⟩
    show Z 0 [some (.ref (A 0)), some (.int p)] [] _ _ _
    have hpar := par_le w 8
    refine z_iload_n G dX3_notScare_0 rfl rfl rfl ?_
    refine z_S G dX3_notScare_1 rfl m_X3_isPerch q2898 (C_X3_isPerch h0) (by decide) (As := [_]) rfl rfl (Nat.le_of_ble_eq_true rfl) (Nat.zero_le _) (Nat.zero_le _) (⟨_, rfl, ?_⟩)
    refine z_if_ne G dX3_notScare_4 rfl (tgt := 14) (by decide) (fun c_4 => ?_) (fun c_4 => ?_)
    · have c_4b := bI_t c_4
      refine z_aload_n G dX3_notScare_14 rfl rfl rfl ?_
      refine z_iload_n G dX3_notScare_15 rfl rfl rfl ?_
      refine z_V G dX3_notScare_16 rfl m_X3_isTaken q2901 (C_X3_isTaken h0) (by decide) (As := [_]) rfl rfl (Nat.le_of_ble_eq_true rfl) (Nat.zero_le _) (Nat.zero_le _) (mhas hA) (⟨_, _, _, _, _, _, hA, rfl, rfl, ?_⟩)
      refine z_if_ne G dX3_notScare_19 rfl (tgt := 30) (by decide) (fun c_19 => ?_) (fun c_19 => ?_)
      · have c_19b := bI_t c_19
        refine z_aload_n G dX3_notScare_30 rfl rfl rfl ?_
        refine z_V G dX3_notScare_31 rfl m_X3_parrots q2905 (C_X3_parrots h0) (by decide) (As := []) rfl rfl (Nat.le_of_ble_eq_true rfl) (Nat.zero_le _) (Nat.zero_le _) (mhas hA) (⟨_, _, _, _, _, hA, rfl, rfl, ?_⟩)
        refine z_bipush G dX3_notScare_34 rfl (v := 8) (by decide) ?_
        refine z_icmp_ne G dX3_notScare_36 rfl (tgt := 50) (by decide) (fun c_36 => ?_) (fun c_36 => ?_)
        · have c_36N := (not_congr <| nI_eq (a := (r_par w 8)) (b := 8) (by omega) (by omega)).mp c_36
          refine z_iconst G dX3_notScare_50 rfl (v := 0) (by decide) ?_
          exact z_iret G dX3_notScare_51 rfl rfl (by simpa [o_scr, isP, c_4, c_4b, c_19, c_19b, c_36, c_36N, nrv, nS] using hK)
        · have c_36N := (nI_eq (a := (r_par w 8)) (b := 8) (by omega) (by omega)).mp c_36
          refine z_aload_n G dX3_notScare_39 rfl rfl rfl ?_
          refine z_bipush G dX3_notScare_40 rfl (v := 15) (by decide) ?_
          refine z_bipush G dX3_notScare_42 rfl (v := 8) (by decide) ?_
          refine z_V G dX3_notScare_44 rfl m_X3_isNot q2671 (C_X3_isNot h0) (by decide) (As := [_, _]) rfl rfl (Nat.le_of_ble_eq_true rfl) (Nat.zero_le _) (Nat.zero_le _) (mhas hA) (⟨_, _, _, _, _, _, _, hA, rfl, rfl, ?_⟩)
          refine z_goto G dX3_notScare_47 (tgt := 51) (by decide) ?_
          exact z_iret G dX3_notScare_51 rfl rfl (by simpa [o_scr, isP, c_4, c_4b, c_19, c_19b, c_36, c_36N, nrv, nS] using hK)
      · have c_19b := bI_f c_19
        refine z_aload_n G dX3_notScare_22 rfl rfl rfl ?_
        refine z_bipush G dX3_notScare_23 rfl (v := 14) (by decide) ?_
        refine z_iload_n G dX3_notScare_25 rfl rfl rfl ?_
        refine z_V G dX3_notScare_26 rfl m_X3_isNot q2671 (C_X3_isNot h0) (by decide) (As := [_, _]) rfl rfl (Nat.le_of_ble_eq_true rfl) (Nat.zero_le _) (Nat.zero_le _) (mhas hA) (⟨_, _, _, _, _, _, _, hA, rfl, rfl, ?_⟩)
        exact z_iret G dX3_notScare_29 rfl rfl (by simpa [o_scr, isP, c_4, c_4b, c_19, c_19b, nrv, nS] using hK)
    · have c_4b := bI_f c_4
      refine z_aload_n G dX3_notScare_7 rfl rfl rfl ?_
      refine z_iconst G dX3_notScare_8 rfl (v := 2) (by decide) ?_
      refine z_iload_n G dX3_notScare_9 rfl rfl rfl ?_
      refine z_V G dX3_notScare_10 rfl m_X3_isNot q2671 (C_X3_isNot h0) (by decide) (As := [_, _]) rfl rfl (Nat.le_of_ble_eq_true rfl) (Nat.zero_le _) (Nat.zero_le _) (mhas hA) (⟨_, _, _, _, _, _, _, hA, rfl, rfl, ?_⟩)
      exact z_iret G dX3_notScare_13 rfl rfl (by simpa [o_scr, isP, c_4, c_4b, nrv, nS] using hK)
def T_X3_scares : List Value → Hp → (Res → Hp → Prop) → Prop := fun av g K => ∃ (A : Nat → Nat) (S : Nat → Int32) (F : Nat → Nat → Int32) (w : Nat → Int32) (g0 : Hp) (p : Nat), mok A ∧ g = mdl A S F w g0 ∧ av = [.ref (A 0), .int (nI p)] ∧ p < 8 ∧ r_fre w ((p + 1) % 8) 8 ∧ K (.inl (some (.int (nI (r_nxt w 8 ((p + 1) % 8)))))) (mdl A S F (r_scr w p (r_nxt w 8 ((p + 1) % 8))) g0)
theorem C_X3_scares {l : Launch} {s0 : State} (h0 : St0 l s0) : Ctr l s0 yX3_scares (ws_ yX3_scares cX3_scares 3 (Option.some Jvm.ClassFile.FieldType.int)) 3 0 0 T_X3_scares := by
  refine ctr_of h0 (by decide) ?_ ?_
  · rintro av g K ⟨A, S, F, w, g0, p, hA, rfl, rfl, hp0, hp1, hK⟩
    exact Nat.le_of_ble_eq_true rfl
  · rintro Z X av g K G ⟨A, S, F, w, g0, p, hA, rfl, rfl, hp0, hp1, hK⟩
    show Z 0 [some (.ref (A 0)), some (.int (nI p)), none] [] _ _ _
    refine z_aload_n G dX3_scares_0 rfl rfl rfl ?_
    refine z_iload_n G dX3_scares_1 rfl rfl rfl ?_
    refine z_V G dX3_scares_2 rfl m_X3_nextFree q2921 (C_X3_nextFree h0) (by decide) (As := [_]) rfl rfl (Nat.le_of_ble_eq_true rfl) (Nat.zero_le _) (Nat.zero_le _) (mhas hA) (⟨_, _, _, _, _, _, hA, rfl, rfl, (by first | assumption | decide | omega), (by first | assumption | decide | omega), ?_⟩)
    refine z_istore_n G dX3_scares_5 rfl (i := 2) rfl (by decide) (zcat_s rfl) (show Z 6 [_, _, _] _ _ _ _ from ?_)
    refine z_aload_n G dX3_scares_6 rfl rfl rfl ?_
    refine mz_get G hA dX3_scares_7 rfl (j := 7) fl_X3_16_2 rfl ?_
    refine z_bipush G dX3_scares_10 rfl (v := 11) (by decide) ?_
    refine z_aload_n G dX3_scares_12 rfl rfl rfl ?_
    refine mz_get G hA dX3_scares_13 rfl (j := 7) fl_X3_16_2 rfl ?_
    refine z_bipush G dX3_scares_16 rfl (v := 11) (by decide) ?_
    refine mz_wld G hA dX3_scares_18 rfl (11) rfl (by decide) ?_
    refine z_iconst G dX3_scares_19 rfl (v := 1) (by decide) ?_
    refine z_iload_n G dX3_scares_20 rfl rfl rfl ?_
    refine z_ishl G dX3_scares_21 rfl ?_
    refine z_iconst G dX3_scares_22 rfl (v := (-1)) (by decide) ?_
    refine z_ixor G dX3_scares_23 rfl ?_
    refine z_iand G dX3_scares_24 rfl ?_
    refine z_iconst G dX3_scares_25 rfl (v := 1) (by decide) ?_
    refine z_iload_n G dX3_scares_26 rfl rfl rfl ?_
    refine z_ishl G dX3_scares_27 rfl ?_
    refine z_ior G dX3_scares_28 rfl ?_
    refine mz_wst G hA dX3_scares_29 rfl (11) rfl (by decide) ?_
    refine z_iload_n G dX3_scares_30 rfl rfl rfl ?_
    exact z_iret G dX3_scares_31 rfl rfl (hK)
def T_X3_scare : List Value → Hp → (Res → Hp → Prop) → Prop := fun av g K => ∃ (A : Nat → Nat) (S : Nat → Int32) (F : Nat → Nat → Int32) (w : Nat → Int32) (g0 : Hp) (c f : Nat) (p : Int32) (pn : Nat), mok A ∧ g = mdl A S F w g0 ∧ av = [.ref (A 0), .int p] ∧ S 11 = nI c ∧ c ≤ 8 ∧ S 12 = nI f ∧ f < 8 ∧ (o_scr w p = none → p = nI pn ∧ pn < 8 ∧ r_fre w ((pn + 1) % 8) 8) ∧ (∀ y, o_scr w p = some y → K (.inl (some (.int 0))) (mdl A (upd (nS (upd S 0 0) (some y)) 0 1) (m_ref (nS (upd S 0 0) (some y)) F) w g0)) ∧ (o_scr w p = none → K (.inl (some (.int (nI (r_nxt w 8 ((pn + 1) % 8)))))) (mdl A (m_kmS (upd S 0 0) c f) (m_rem F w c f upA) (r_scr w pn (r_nxt w 8 ((pn + 1) % 8))) g0))
theorem C_X3_scare {l : Launch} {s0 : State} (h0 : St0 l s0) : Ctr l s0 yX3_scare (ws_ yX3_scare cX3_scare 2 (Option.some Jvm.ClassFile.FieldType.int)) 4 0 0 T_X3_scare := by
  refine ctr_of h0 (by decide) ?_ ?_
  · rintro av g K ⟨A, S, F, w, g0, c, f, p, pn, hA, rfl, rfl, hc0, hc1, hc2, hc3, hp0, hR, hK⟩
    exact Nat.le_of_ble_eq_true rfl
  · rintro Z X av g K G ⟨A, S, F, w, g0, c, f, p, pn, hA, rfl, rfl, hc0, hc1, hc2, hc3, hp0, hR, hK⟩
    show Z 0 [some (.ref (A 0)), some (.int p)] [] _ _ _
    refine z_aload_n G dX3_scare_0 rfl rfl rfl ?_
    refine z_iconst G dX3_scare_1 rfl (v := 0) (by decide) ?_
    refine mz_put G hA dX3_scare_2 rfl (j := 0) fl_X3_42_2p rfl rfl (by decide) rfl ?_
    refine z_aload_n G dX3_scare_5 rfl rfl rfl ?_
    refine z_iload_n G dX3_scare_6 rfl rfl rfl ?_
    refine z_V G dX3_scare_7 rfl m_X3_notScare q2913 (C_X3_notScare h0) (by decide) (As := [_]) rfl rfl (Nat.le_of_ble_eq_true rfl) (Nat.zero_le _) (Nat.zero_le _) (mhas hA) (⟨_, _, _, _, _, _, hA, rfl, rfl, ?_⟩)
    refine z_if_eq G dX3_scare_10 rfl (tgt := 18) (by decide) (fun c_10 => ?_) (fun c_10 => ?_)
    · have ho := nrv_0 c_10
      rw [ho]
      obtain ⟨rfl, hq, hq2⟩ := hp0 ho
      refine z_aload_n G dX3_scare_18 rfl rfl rfl ?_
      refine z_V G dX3_scare_19 rfl m_X3_remembers q2687 (C_X3_remembers h0) (by decide) (As := []) rfl rfl (Nat.le_of_ble_eq_true rfl) (Nat.zero_le _) (Nat.zero_le _) (mhas hA) (⟨_, _, _, _, _, _, _, hA, rfl, rfl, (by first | assumption | decide | omega), (by first | assumption | decide | omega), (by first | assumption | decide | omega), (by first | assumption | decide | omega), ?_⟩)
      refine z_aload_n G dX3_scare_22 rfl rfl rfl ?_
      refine z_iload_n G dX3_scare_23 rfl rfl rfl ?_
      refine z_V G dX3_scare_24 rfl m_X3_scares q2917 (C_X3_scares h0) (by decide) (As := [_]) rfl rfl (Nat.le_of_ble_eq_true rfl) (Nat.zero_le _) (Nat.zero_le _) (mhas hA) (⟨_, _, _, _, _, _, hA, rfl, rfl, (by first | assumption | decide | omega), (by first | assumption | decide | omega), ?_⟩)
      exact z_iret G dX3_scare_27 rfl rfl (hK ho)
    · obtain ⟨y, hy⟩ := nrv_n c_10
      rw [hy]
      refine z_aload_n G dX3_scare_13 rfl rfl rfl ?_
      refine z_V G dX3_scare_14 rfl m_X3_refuses q2675 (C_X3_refuses h0) (by decide) (As := []) rfl rfl (Nat.le_of_ble_eq_true rfl) (Nat.zero_le _) (Nat.zero_le _) (mhas hA) (⟨_, _, _, _, _, hA, rfl, rfl, ?_⟩)
      exact z_iret G dX3_scare_17 rfl rfl (hR y hy)
