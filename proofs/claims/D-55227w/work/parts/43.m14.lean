/-! THE REFERENCE: the run of a text -/
def T_X3_run : List Value → Hp → (Res → Hp → Prop) → Prop := fun av g K => ∃ (A : Nat → Nat) (S : Nat → Int32) (F : Nat → Nat → Int32) (w : Nat → Int32) (g0 : Hp) (c f len a B : Nat), mok A ∧ g = mdl A S F w g0 ∧ av = [.ref (A 0)] ∧ S 11 = nI c ∧ c ≤ 8 ∧ S 12 = nI f ∧ f < 8 ∧ S 15 = nI len ∧ len ≤ 60 ∧ S 16 = nI a ∧ rok B w ∧ B + 48 * 62 < 2 ^ 29 ∧ ((u_R S F len).1 = false → K (.inl (some (.int 0))) (mdl A (upd (upd (upd (tS (upd S 0 0) (u_R S F len).2) 17 (nI (u_R S F len).2.1)) 15 0) 0 1) (tF F (u_R S F len).2) w g0)) ∧ ((u_R S F len).1 = true → (u_Q S F w len).1 = true → K (.inl (some (.int (nI (u_Q S F w len).2.2.2.1)))) (mdl A (m_kmS (u_S2 S F w len) c f) (upA (u_F2 S F w len) 8 (va_cpy (u_F2 S F w len 10) (u_F2 S F w len 8) 0 (99 * m_kmt c f) 99)) (u_Q S F w len).2.2.1 g0)) ∧ ((u_R S F len).1 = true → (u_Q S F w len).1 = false → K (.inl (some (.int 0))) (mdl A (upd (u_S2 S F w len) 0 2) (u_F3 S F w len) w g0))
theorem C_X3_run {l : Launch} {s0 : State} (h0 : St0 l s0) : Ctr l s0 yX3_run (ws_ yX3_run cX3_run 3 (Option.some Jvm.ClassFile.FieldType.int)) 8 0 0 T_X3_run := by
  refine ctr_of h0 (by decide) ?_ ?_
  · rintro av g K ⟨A, S, F, w, g0, c, f, len, a, B, hA, rfl, rfl, hp0, hp1, hp2, hp3, hp4, hp5, hp6, hp7, hp8, hK0, hK1, hK2⟩
    exact Nat.le_of_ble_eq_true rfl
  · rintro Z X av g K G ⟨A, S, F, w, g0, c, f, len, a, B, hA, rfl, rfl, hp0, hp1, hp2, hp3, hp4, hp5, hp6, hp7, hp8, hK0, hK1, hK2⟩
    show Z 0 [some (.ref (A 0)), none, none] [] _ _ _
    have hS : tS S (a, S 19, F 18) = S := tS_id hp6
    have hF : tF F (a, S 19, F 18) = F := tF_id
    obtain ⟨o1, o2, o3⟩ := S2_o (S := S) (F := F) (w := w) (len := len)
    refine z_aload_n G dX3_run_0 rfl rfl rfl ?_
    refine z_iconst G dX3_run_1 rfl (v := 0) (by decide) ?_
    refine mz_put G hA dX3_run_2 rfl (j := 0) fl_X3_42_2p rfl rfl (by decide) rfl ?_
    rw [← hS, tS_o (by decide) (by decide)]
    rw [← hF]
    show Z 5 _ _ (mdl A (tS (upd S 0 0) (a, S 19, F 18)) (tF F (a, S 19, F 18)) w g0) _ _
    refine z_aload_n G dX3_run_5 rfl rfl rfl ?_
    refine z_V G dX3_run_6 rfl m_X3_readsAll q3065 (C_X3_readsAll h0) (by decide) (As := []) rfl rfl (Nat.le_of_ble_eq_true rfl) (Nat.zero_le _) (Nat.zero_le _) (mhas hA) (⟨_, _, _, _, _, _, len, hA, rfl, rfl, hp4, hp5, ?_⟩)
    show Z 9 _ [.int (bI (u_R S F len).1)] (mdl A (tS (upd S 0 0) (u_R S F len).2) (tF F (u_R S F len).2) w g0) _ _
    refine z_istore_n G dX3_run_9 rfl (i := 1) rfl (by decide) (zcat_s rfl) (show Z 10 [_, _, _] _ _ _ _ from ?_)
    refine z_aload_n G dX3_run_10 rfl rfl rfl ?_
    refine z_iload_n G dX3_run_11 rfl rfl rfl ?_
    refine z_if_eq G dX3_run_12 rfl (tgt := 19) (by decide) (fun c_12 => ?_) (fun c_12 => ?_)
    · have hr := bI_f c_12
      refine z_aload_n G dX3_run_19 rfl rfl rfl ?_
      refine mz_get G hA dX3_run_20 rfl (j := 16) fl_X3_246_2 rfl ?_
      refine mz_put G hA dX3_run_23 rfl (j := 17) fl_X3_32_2p rfl rfl (by decide) rfl ?_
      refine z_iload_n G dX3_run_26 rfl rfl rfl ?_
      refine z_if_ne G dX3_run_27 rfl (tgt := 41) (by decide) (fun c_27 => ?_) (fun c_27 => ?_)
      · exact absurd c_12 c_27
      · refine z_aload_n G dX3_run_30 rfl rfl rfl ?_
        refine z_iconst G dX3_run_31 rfl (v := 0) (by decide) ?_
        refine mz_put G hA dX3_run_32 rfl (j := 15) fl_X3_243_2p rfl rfl (by decide) rfl ?_
        refine z_aload_n G dX3_run_35 rfl rfl rfl ?_
        refine z_iconst G dX3_run_36 rfl (v := 1) (by decide) ?_
        refine z_V G dX3_run_37 rfl m_X3_fails q2683 (C_X3_fails h0) (by decide) (As := [_]) rfl rfl (Nat.le_of_ble_eq_true rfl) (Nat.zero_le _) (Nat.zero_le _) (mhas hA) (⟨_, _, _, _, _, _, hA, rfl, rfl, ?_⟩)
        exact z_iret G dX3_run_40 rfl rfl (hK0 hr)
    · have hr := bI_t c_12
      refine z_iconst G dX3_run_15 rfl (v := (-1)) (by decide) ?_
      refine z_goto G dX3_run_16 (tgt := 23) (by decide) ?_
      refine mz_put G hA dX3_run_23 rfl (j := 17) fl_X3_32_2p rfl rfl (by decide) rfl ?_
      refine z_iload_n G dX3_run_26 rfl rfl rfl ?_
      refine z_if_ne G dX3_run_27 rfl (tgt := 41) (by decide) (fun c_27 => ?_) (fun c_27 => ?_)
      · rw [tS_o (by decide) (by decide)]
        show Z 41 _ _ (mdl A (tS (u_S1 S) (u_R S F len).2) (tF F (u_R S F len).2) w g0) _ _
        refine z_aload_n G dX3_run_41 rfl rfl rfl ?_
        refine z_V G dX3_run_42 rfl m_X3_thinks q2691 (C_X3_thinks h0) (by decide) (As := []) rfl rfl (Nat.le_of_ble_eq_true rfl) (Nat.zero_le _) (Nat.zero_le _) (mhas hA) (⟨_, _, _, _, _, hA, rfl, rfl, ?_⟩)
        rw [tF_o (by decide)]
        show Z 45 _ _ (mdl A (tS (u_S1 S) (u_R S F len).2) (tF (upA F 10 (va_cpy w (F 10) 0 0 99)) (u_R S F len).2) w g0) _ _
        refine z_aload_n G dX3_run_45 rfl rfl rfl ?_
        refine z_V G dX3_run_46 rfl m_X3_doesAll q3101 (C_X3_doesAll h0) (by decide) (As := []) rfl rfl (Nat.le_of_ble_eq_true rfl) (Nat.zero_le _) (Nat.zero_le _) (mhas hA) (⟨_, _, _, _, _, _, len, B, hA, rfl, rfl, hp4, hp5, hp7, hp8, ?_⟩)
        show Z 49 _ [.int (bI (u_Q S F w len).1)] (mdl A (tS (nS (dS (u_S1 S) (u_Q S F w len).2.2.2.1) (u_Q S F w len).2.2.2.2) (u_Q S F w len).2.1) (u_F2 S F w len) (u_Q S F w len).2.2.1 g0) _ _
        refine z_istore_n G dX3_run_49 rfl (i := 2) rfl (by decide) (zcat_s rfl) (show Z 50 [_, _, _] _ _ _ _ from ?_)
        refine z_aload_n G dX3_run_50 rfl rfl rfl ?_
        refine z_iconst G dX3_run_51 rfl (v := 0) (by decide) ?_
        refine mz_put G hA dX3_run_52 rfl (j := 15) fl_X3_243_2p rfl rfl (by decide) rfl ?_
        show Z 55 _ _ (mdl A (u_S2 S F w len) (u_F2 S F w len) (u_Q S F w len).2.2.1 g0) _ _
        refine z_iload_n G dX3_run_55 rfl rfl rfl ?_
        refine z_if_eq G dX3_run_56 rfl (tgt := 68) (by decide) (fun c_56 => ?_) (fun c_56 => ?_)
        · have hq := bI_f c_56
          refine z_aload_n G dX3_run_68 rfl rfl rfl ?_
          refine z_V G dX3_run_69 rfl m_X3_forgets q2882 (C_X3_forgets h0) (by decide) (As := []) rfl rfl (Nat.le_of_ble_eq_true rfl) (Nat.zero_le _) (Nat.zero_le _) (mhas hA) (⟨_, _, _, _, _, hA, rfl, rfl, ?_⟩)
          rw [show va_cpy (u_F2 S F w len 10) (u_Q S F w len).2.2.1 0 0 99 = w from cpy_back (fun k hk => do_hi hk 61 _ _ _ B hp7 (by omega))]
          refine z_aload_n G dX3_run_72 rfl rfl rfl ?_
          refine z_iconst G dX3_run_73 rfl (v := 0) (by decide) ?_
          refine z_bipush G dX3_run_74 rfl (v := 16) (by decide) ?_
          refine z_aload_n G dX3_run_76 rfl rfl rfl ?_
          refine mz_getN G hA dX3_run_77 rfl (j := 20) fl_X3_277_2 rfl ((u_Q S F w len).2.2.2.1) o3 ?_
          refine z_V G dX3_run_80 rfl m_X3_keepsAt q2679 (C_X3_keepsAt h0) (by decide) (As := [_, _, _]) rfl rfl (Nat.le_of_ble_eq_true rfl) (Nat.zero_le _) (Nat.zero_le _) (mhas hA) (⟨_, _, _, _, _, _, _, _, hA, rfl, rfl, (by first | assumption | decide | omega), ?_⟩)
          refine z_aload_n G dX3_run_83 rfl rfl rfl ?_
          refine z_iconst G dX3_run_84 rfl (v := 1) (by decide) ?_
          refine z_aload_n G dX3_run_85 rfl rfl rfl ?_
          refine mz_get G hA dX3_run_86 rfl (j := 3) fl_X3_45_2 rfl ?_
          refine z_aload_n G dX3_run_89 rfl rfl rfl ?_
          refine mz_get G hA dX3_run_90 rfl (j := 4) fl_X3_48_2 rfl ?_
          refine z_V G dX3_run_93 rfl m_X3_keepsAt q2679 (C_X3_keepsAt h0) (by decide) (As := [_, _, _]) rfl rfl (Nat.le_of_ble_eq_true rfl) (Nat.zero_le _) (Nat.zero_le _) (mhas hA) (⟨_, _, _, _, _, _, _, _, hA, rfl, rfl, (by first | assumption | decide | omega), ?_⟩)
          refine z_aload_n G dX3_run_96 rfl rfl rfl ?_
          refine z_iconst G dX3_run_97 rfl (v := 2) (by decide) ?_
          refine z_aload_n G dX3_run_98 rfl rfl rfl ?_
          refine mz_get G hA dX3_run_99 rfl (j := 5) fl_X3_51_2 rfl ?_
          refine z_aload_n G dX3_run_102 rfl rfl rfl ?_
          refine mz_get G hA dX3_run_103 rfl (j := 6) fl_X3_54_2 rfl ?_
          refine z_V G dX3_run_106 rfl m_X3_keepsAt q2679 (C_X3_keepsAt h0) (by decide) (As := [_, _, _]) rfl rfl (Nat.le_of_ble_eq_true rfl) (Nat.zero_le _) (Nat.zero_le _) (mhas hA) (⟨_, _, _, _, _, _, _, _, hA, rfl, rfl, (by first | assumption | decide | omega), ?_⟩)
          refine z_aload_n G dX3_run_109 rfl rfl rfl ?_
          refine z_iconst G dX3_run_110 rfl (v := 2) (by decide) ?_
          refine z_V G dX3_run_111 rfl m_X3_fails q2683 (C_X3_fails h0) (by decide) (As := [_]) rfl rfl (Nat.le_of_ble_eq_true rfl) (Nat.zero_le _) (Nat.zero_le _) (mhas hA) (⟨_, _, _, _, _, _, hA, rfl, rfl, ?_⟩)
          exact z_iret G dX3_run_114 rfl rfl (hK2 hr hq)
        · have hq := bI_t c_56
          refine z_aload_n G dX3_run_59 rfl rfl rfl ?_
          refine z_V G dX3_run_60 rfl m_X3_keepsMind q2695 (C_X3_keepsMind h0) (by decide) (As := []) rfl rfl (Nat.le_of_ble_eq_true rfl) (Nat.zero_le _) (Nat.zero_le _) (mhas hA) (⟨_, _, _, _, _, c, f, hA, rfl, rfl, o1.trans hp0, hp1, o2.trans hp2, hp3, ?_⟩)
          refine z_aload_n G dX3_run_63 rfl rfl rfl ?_
          refine mz_getN G hA dX3_run_64 rfl (j := 20) fl_X3_277_2 rfl ((u_Q S F w len).2.2.2.1) ((kmS_o (by decide) (by decide)).trans o3) ?_
          exact z_iret G dX3_run_67 rfl rfl (hK1 hr hq)
      · exact absurd c_27 c_12
