/-! THE REFERENCE: the orders of a text -/
def T_X3_notNow : List Value → Hp → (Res → Hp → Prop) → Prop := fun av g K => ∃ (A : Nat → Nat) (S : Nat → Int32) (F : Nat → Nat → Int32) (w : Nat → Int32) (g0 : Hp) (B : Nat) (so x y : Int32), mok A ∧ g = mdl A S F w g0 ∧ av = [.ref (A 0)] ∧ rok B w ∧ B < 2 ^ 29 ∧ S 19 = so ∧ F 18 0 = x ∧ F 18 1 = y ∧ K (.inl (some (.int (nrv (o_now w so x y))))) (mdl A (nS S (o_now w so x y)) F w g0)
theorem C_X3_notNow {l : Launch} {s0 : State} (h0 : St0 l s0) : Ctr l s0 yX3_notNow (ws_ yX3_notNow cX3_notNow 1 (Option.some Jvm.ClassFile.FieldType.int)) 5 0 0 T_X3_notNow := by
  refine ctr_of h0 (by decide) ?_ ?_
  · rintro av g K ⟨A, S, F, w, g0, B, so, x, y, hA, rfl, rfl, hp0, hp1, hp2, hp3, hp4, hK⟩
    exact Nat.le_of_ble_eq_true rfl
  · rintro Z X av g K G ⟨A, S, F, w, g0, B, so, x, y, hA, rfl, rfl, hp0, hp1, hp2, hp3, hp4, hK⟩
    show Z 0 [some (.ref (A 0))] [] _ _ _
    have hB : B < 2 ^ 30 := by omega
    obtain ⟨d0, d1, d2, d3, d4, d5, d6, d7⟩ := rok_D hB hp0
    refine z_aload_n G dX3_notNow_0 rfl rfl rfl ?_
    refine mz_get G hA dX3_notNow_1 rfl (j := 19) fl_X3_262_2 rfl ?_
    rw [hp2]
    rcases sw7 so with rfl | rfl | rfl | rfl | rfl | rfl | rfl | hsw
    · refine z_tableIn G dX3_notNow_4 (by decide) (by decide) (off := 44) rfl (tgt := 48) (by decide) ?_
      refine z_aload_n G dX3_notNow_48 rfl rfl rfl ?_
      refine z_aload_n G dX3_notNow_49 rfl rfl rfl ?_
      refine mz_get G hA dX3_notNow_50 rfl (j := 18) fl_X3_36_2 rfl ?_
      refine z_iconst G dX3_notNow_53 rfl (v := 0) (by decide) ?_
      refine mz_ild G hA 18 (by decide) rfl dX3_notNow_54 rfl (0) rfl (by decide) (by decide) ?_
      rw [hp3]
      refine z_V G dX3_notNow_55 rfl m_X3_notBring q2707 (C_X3_notBring h0) (by decide) (As := [_]) rfl rfl (Nat.le_of_ble_eq_true rfl) (Nat.zero_le _) (Nat.zero_le _) (mhas hA) (⟨_, _, _, _, _, x, nbN w, hA, rfl, rfl, d4, d5, ?_⟩)
      exact z_iret G dX3_notNow_58 rfl rfl (by simpa [o_now, ] using hK)
    · refine z_tableIn G dX3_notNow_4 (by decide) (by decide) (off := 55) rfl (tgt := 59) (by decide) ?_
      refine z_aload_n G dX3_notNow_59 rfl rfl rfl ?_
      refine z_V G dX3_notNow_60 rfl m_X3_notMend q2815 (C_X3_notMend h0) (by decide) (As := []) rfl rfl (Nat.le_of_ble_eq_true rfl) (Nat.zero_le _) (Nat.zero_le _) (mhas hA) (⟨_, _, _, _, _, bnN w 0, stN w (bnN w 0), hN w, hA, rfl, rfl, d0, by omega, rok_has hp0 _ _, rok_1st hB hp0, ?_⟩)
      exact z_iret G dX3_notNow_63 rfl rfl (by simpa [o_now, ] using hK)
    · refine z_tableIn G dX3_notNow_4 (by decide) (by decide) (off := 60) rfl (tgt := 64) (by decide) ?_
      refine z_aload_n G dX3_notNow_64 rfl rfl rfl ?_
      refine z_aload_n G dX3_notNow_65 rfl rfl rfl ?_
      refine mz_get G hA dX3_notNow_66 rfl (j := 18) fl_X3_36_2 rfl ?_
      refine z_iconst G dX3_notNow_69 rfl (v := 0) (by decide) ?_
      refine mz_ild G hA 18 (by decide) rfl dX3_notNow_70 rfl (0) rfl (by decide) (by decide) ?_
      rw [hp3]
      refine z_V G dX3_notNow_71 rfl m_X3_notSmoke q2843 (C_X3_notSmoke h0) (by decide) (As := [_]) rfl rfl (Nat.le_of_ble_eq_true rfl) (Nat.zero_le _) (Nat.zero_le _) (mhas hA) (⟨_, _, _, _, _, x, nbN w, pN x, hA, rfl, rfl, d4, d5, (fun e => ⟨(rok_isP hB hp0 e).1, (rok_isP hB hp0 e).2.1⟩), ?_⟩)
      exact z_iret G dX3_notNow_74 rfl rfl (by simpa [o_now, ] using hK)
    · refine z_tableIn G dX3_notNow_4 (by decide) (by decide) (off := 71) rfl (tgt := 75) (by decide) ?_
      refine z_aload_n G dX3_notNow_75 rfl rfl rfl ?_
      refine z_aload_n G dX3_notNow_76 rfl rfl rfl ?_
      refine mz_get G hA dX3_notNow_77 rfl (j := 18) fl_X3_36_2 rfl ?_
      refine z_iconst G dX3_notNow_80 rfl (v := 0) (by decide) ?_
      refine mz_ild G hA 18 (by decide) rfl dX3_notNow_81 rfl (0) rfl (by decide) (by decide) ?_
      rw [hp3]
      refine z_V G dX3_notNow_82 rfl m_X3_notLump q2759 (C_X3_notLump h0) (by decide) (As := [_]) rfl rfl (Nat.le_of_ble_eq_true rfl) (Nat.zero_le _) (Nat.zero_le _) (mhas hA) (⟨_, _, _, _, _, _, hA, rfl, rfl, ?_⟩)
      exact z_iret G dX3_notNow_85 rfl rfl (by simpa [o_now, ] using hK)
    · refine z_tableIn G dX3_notNow_4 (by decide) (by decide) (off := 82) rfl (tgt := 86) (by decide) ?_
      refine z_aload_n G dX3_notNow_86 rfl rfl rfl ?_
      refine z_aload_n G dX3_notNow_87 rfl rfl rfl ?_
      refine mz_get G hA dX3_notNow_88 rfl (j := 18) fl_X3_36_2 rfl ?_
      refine z_iconst G dX3_notNow_91 rfl (v := 0) (by decide) ?_
      refine mz_ild G hA 18 (by decide) rfl dX3_notNow_92 rfl (0) rfl (by decide) (by decide) ?_
      rw [hp3]
      refine z_V G dX3_notNow_93 rfl m_X3_notPiece q2771 (C_X3_notPiece h0) (by decide) (As := [_]) rfl rfl (Nat.le_of_ble_eq_true rfl) (Nat.zero_le _) (Nat.zero_le _) (mhas hA) (⟨_, _, _, _, _, _, hA, rfl, rfl, ?_⟩)
      exact z_iret G dX3_notNow_96 rfl rfl (by simpa [o_now, ] using hK)
    · refine z_tableIn G dX3_notNow_4 (by decide) (by decide) (off := 93) rfl (tgt := 97) (by decide) ?_
      refine z_aload_n G dX3_notNow_97 rfl rfl rfl ?_
      refine z_aload_n G dX3_notNow_98 rfl rfl rfl ?_
      refine mz_get G hA dX3_notNow_99 rfl (j := 18) fl_X3_36_2 rfl ?_
      refine z_iconst G dX3_notNow_102 rfl (v := 0) (by decide) ?_
      refine mz_ild G hA 18 (by decide) rfl dX3_notNow_103 rfl (0) rfl (by decide) (by decide) ?_
      rw [hp3]
      refine z_V G dX3_notNow_104 rfl m_X3_notScare q2913 (C_X3_notScare h0) (by decide) (As := [_]) rfl rfl (Nat.le_of_ble_eq_true rfl) (Nat.zero_le _) (Nat.zero_le _) (mhas hA) (⟨_, _, _, _, _, _, hA, rfl, rfl, ?_⟩)
      exact z_iret G dX3_notNow_107 rfl rfl (by simpa [o_now, ] using hK)
    · refine z_tableIn G dX3_notNow_4 (by decide) (by decide) (off := 104) rfl (tgt := 108) (by decide) ?_
      refine z_aload_n G dX3_notNow_108 rfl rfl rfl ?_
      refine z_aload_n G dX3_notNow_109 rfl rfl rfl ?_
      refine mz_get G hA dX3_notNow_110 rfl (j := 18) fl_X3_36_2 rfl ?_
      refine z_iconst G dX3_notNow_113 rfl (v := 0) (by decide) ?_
      refine mz_ild G hA 18 (by decide) rfl dX3_notNow_114 rfl (0) rfl (by decide) (by decide) ?_
      refine z_aload_n G dX3_notNow_115 rfl rfl rfl ?_
      refine mz_get G hA dX3_notNow_116 rfl (j := 18) fl_X3_36_2 rfl ?_
      refine z_iconst G dX3_notNow_119 rfl (v := 1) (by decide) ?_
      refine mz_ild G hA 18 (by decide) rfl dX3_notNow_120 rfl (1) rfl (by decide) (by decide) ?_
      rw [hp3, hp4]
      refine z_V G dX3_notNow_121 rfl m_X3_notDrop q2862 (C_X3_notDrop h0) (by decide) (As := [_, _]) rfl rfl (Nat.le_of_ble_eq_true rfl) (Nat.zero_le _) (Nat.zero_le _) (mhas hA) (⟨_, _, _, _, _, _, _, hA, rfl, rfl, ?_⟩)
      exact z_iret G dX3_notNow_124 rfl rfl (by simpa [o_now, ] using hK)
    · refine z_tableOut G dX3_notNow_4 hsw.1 (tgt := 125) (by decide) ?_
      refine z_aload_n G dX3_notNow_125 rfl rfl rfl ?_
      refine z_aload_n G dX3_notNow_126 rfl rfl rfl ?_
      refine mz_get G hA dX3_notNow_127 rfl (j := 18) fl_X3_36_2 rfl ?_
      refine z_iconst G dX3_notNow_130 rfl (v := 0) (by decide) ?_
      refine mz_ild G hA 18 (by decide) rfl dX3_notNow_131 rfl (0) rfl (by decide) (by decide) ?_
      rw [hp3]
      refine z_V G dX3_notNow_132 rfl m_X3_notHour q2929 (C_X3_notHour h0) (by decide) (As := [_]) rfl rfl (Nat.le_of_ble_eq_true rfl) (Nat.zero_le _) (Nat.zero_le _) (mhas hA) (⟨_, _, _, _, _, _, hA, rfl, rfl, ?_⟩)
      exact z_iret G dX3_notNow_135 rfl rfl (by simpa [o_now, hsw] using hK)
def T_X3_doesNow : List Value → Hp → (Res → Hp → Prop) → Prop := fun av g K => ∃ (A : Nat → Nat) (S : Nat → Int32) (F : Nat → Nat → Int32) (w : Nat → Int32) (g0 : Hp) (B : Nat) (so x y : Int32), mok A ∧ g = mdl A S F w g0 ∧ av = [.ref (A 0)] ∧ rok B w ∧ B < 2 ^ 29 ∧ S 19 = so ∧ F 18 0 = x ∧ F 18 1 = y ∧ o_now w so x y = none ∧ (∀ v : Int32, K (.inl (some (.int v))) (mdl A S F (d_now w so x y) g0))
theorem C_X3_doesNow {l : Launch} {s0 : State} (h0 : St0 l s0) : Ctr l s0 yX3_doesNow (ws_ yX3_doesNow cX3_doesNow 1 (Option.some Jvm.ClassFile.FieldType.int)) 6 0 0 T_X3_doesNow := by
  refine ctr_of h0 (by decide) ?_ ?_
  · rintro av g K ⟨A, S, F, w, g0, B, so, x, y, hA, rfl, rfl, hp0, hp1, hp2, hp3, hp4, hp5, hK0⟩
    exact Nat.le_of_ble_eq_true rfl
  · rintro Z X av g K G ⟨A, S, F, w, g0, B, so, x, y, hA, rfl, rfl, hp0, hp1, hp2, hp3, hp4, hp5, hK0⟩
    show Z 0 [some (.ref (A 0))] [] _ _ _
    have hB : B < 2 ^ 30 := by omega
    obtain ⟨d0, d1, d2, d3, d4, d5, d6, d7⟩ := rok_D hB hp0
    refine z_aload_n G dX3_doesNow_0 rfl rfl rfl ?_
    refine mz_get G hA dX3_doesNow_1 rfl (j := 19) fl_X3_262_2 rfl ?_
    rw [hp2]
    rcases sw7 so with rfl | rfl | rfl | rfl | rfl | rfl | rfl | hsw
    · refine z_tableIn G dX3_doesNow_4 (by decide) (by decide) (off := 44) rfl (tgt := 48) (by decide) ?_
      have ho : o_bring w x (nbN w) = none := by simpa [o_now] using hp5
      obtain ⟨hh, cf, np, nb, nl, pr, hw⟩ := id hp0
      have e3 : nbN w = nb := pN_of hw.1.2.2.2.2.2.2.2.1 (by have := hw.1.2.2.2.2.2.2.2.2.1; omega)
      have h10 : nbN w < 10 := by rw [e3] at ho ⊢; exact (brg_ok hw ho).1
      refine z_aload_n G dX3_doesNow_48 rfl rfl rfl ?_
      refine z_aload_n G dX3_doesNow_49 rfl rfl rfl ?_
      refine mz_get G hA dX3_doesNow_50 rfl (j := 18) fl_X3_36_2 rfl ?_
      refine z_iconst G dX3_doesNow_53 rfl (v := 0) (by decide) ?_
      refine mz_ild G hA 18 (by decide) rfl dX3_doesNow_54 rfl (0) rfl (by decide) (by decide) ?_
      rw [hp3]
      refine z_V G dX3_doesNow_55 rfl m_X3_brings q2719 (C_X3_brings h0) (by decide) (As := [_]) rfl rfl (Nat.le_of_ble_eq_true rfl) (Nat.zero_le _) (Nat.zero_le _) (mhas hA) (⟨_, _, _, _, _, x, nbN w, hA, rfl, rfl, d4, h10, ?_⟩)
      exact z_iret G dX3_doesNow_58 rfl rfl (by have h := hK0 (nI (nbN w)); simpa [d_now] using h)
    · refine z_tableIn G dX3_doesNow_4 (by decide) (by decide) (off := 55) rfl (tgt := 59) (by decide) ?_
      have ho : o_mend w (bnN w 0) (stN w (bnN w 0)) (hN w) = none := by simpa [o_now] using hp5
      have h3 : ¬ w 3 = 0 := fun e => by rw [o_mend, if_pos e] at ho; cases ho
      have hm : o_mdd w (bnN w 0) (stN w (bnN w 0)) = none := by rw [o_mend, if_neg h3] at ho; split at ho; exact ho; cases ho
      obtain ⟨⟨m1, m2, m3, m4, m5⟩, -⟩ := rok_men hB hp0 h3 hm
      obtain ⟨b1, b2, b3, b4⟩ := rok_1st hB hp0 h3
      refine z_aload_n G dX3_doesNow_59 rfl rfl rfl ?_
      refine z_V G dX3_doesNow_60 rfl m_X3_mends q2831 (C_X3_mends h0) (by decide) (As := []) rfl rfl (Nat.le_of_ble_eq_true rfl) (Nat.zero_le _) (Nat.zero_le _) (mhas hA) (⟨_, _, _, _, _, bnN w 0, stN w (bnN w 0), pcN w (bnN w 0), nbN w, lmN w (bnN w 0), lNn w, hA, rfl, rfl, b1, b2, b3, b4, m1, m2, m3, m4, d6, d7, d4, m5, d5, ?_⟩)
      exact z_iret G dX3_doesNow_63 rfl rfl (by have h := hK0 (nI (bnN w 0)); simpa [d_now, r_mnw] using h)
    · refine z_tableIn G dX3_doesNow_4 (by decide) (by decide) (off := 60) rfl (tgt := 64) (by decide) ?_
      have ho : o_smk w x (nbN w) (pN x) = none := by simpa [o_now] using hp5
      obtain ⟨q, rfl, q2⟩ := smk_N d2 d3 ho
      have e : pN (nI q) = q := pN_of rfl (by omega)
      refine z_aload_n G dX3_doesNow_64 rfl rfl rfl ?_
      refine z_aload_n G dX3_doesNow_65 rfl rfl rfl ?_
      refine mz_get G hA dX3_doesNow_66 rfl (j := 18) fl_X3_36_2 rfl ?_
      refine z_iconst G dX3_doesNow_69 rfl (v := 0) (by decide) ?_
      refine mz_ild G hA 18 (by decide) rfl dX3_doesNow_70 rfl (0) rfl (by decide) (by decide) ?_
      rw [hp3]
      refine z_V G dX3_doesNow_71 rfl m_X3_smokesOnce q2851 (C_X3_smokesOnce h0) (by decide) (As := [_]) rfl rfl (Nat.le_of_ble_eq_true rfl) (Nat.zero_le _) (Nat.zero_le _) (mhas hA) (⟨_, _, _, _, _, q, hA, rfl, rfl, by omega, ?_⟩)
      exact z_iret G dX3_doesNow_74 rfl rfl (by have h := hK0 (pw (r_smk w q) q 2); simpa [d_now, e] using h)
    · refine z_tableIn G dX3_doesNow_4 (by decide) (by decide) (off := 71) rfl (tgt := 75) (by decide) ?_
      have ho : o_lump w x = none := by simpa [o_now] using hp5
      obtain ⟨hh, cf, np, nb, nl, pr, hw⟩ := id hp0
      have e4 : lNn w = nl := lNn_of hw.1.2.2.2.2.2.2.2.2.2.1 (by have := hw.1.2.2.2.2.2.2.2.2.2.2.1; omega)
      have h20 : lNn w < 20 := by rw [e4]; exact (lcm_ok hw ho).1
      refine z_aload_n G dX3_doesNow_75 rfl rfl rfl ?_
      refine z_aload_n G dX3_doesNow_76 rfl rfl rfl ?_
      refine mz_get G hA dX3_doesNow_77 rfl (j := 18) fl_X3_36_2 rfl ?_
      refine z_iconst G dX3_doesNow_80 rfl (v := 0) (by decide) ?_
      refine mz_ild G hA 18 (by decide) rfl dX3_doesNow_81 rfl (0) rfl (by decide) (by decide) ?_
      rw [hp3]
      refine z_V G dX3_doesNow_82 rfl m_X3_lumpComes q2763 (C_X3_lumpComes h0) (by decide) (As := [_]) rfl rfl (Nat.le_of_ble_eq_true rfl) (Nat.zero_le _) (Nat.zero_le _) (mhas hA) (⟨_, _, _, _, _, x, lNn w, hA, rfl, rfl, d6, h20, ?_⟩)
      exact z_iret G dX3_doesNow_85 rfl rfl (by have h := hK0 (nI (lNn w + 1)); simpa [d_now] using h)
    · refine z_tableIn G dX3_doesNow_4 (by decide) (by decide) (off := 82) rfl (tgt := 86) (by decide) ?_
      have ho : o_piece w x = none := by simpa [o_now] using hp5
      obtain ⟨q, rfl, q2, q3, q4⟩ := piece_N ho
      have e : pN (nI q) = q := pN_of rfl (by omega)
      refine z_aload_n G dX3_doesNow_86 rfl rfl rfl ?_
      refine z_aload_n G dX3_doesNow_87 rfl rfl rfl ?_
      refine mz_get G hA dX3_doesNow_88 rfl (j := 18) fl_X3_36_2 rfl ?_
      refine z_iconst G dX3_doesNow_91 rfl (v := 0) (by decide) ?_
      refine mz_ild G hA 18 (by decide) rfl dX3_doesNow_92 rfl (0) rfl (by decide) (by decide) ?_
      rw [hp3]
      refine z_V G dX3_doesNow_93 rfl m_X3_pieceComes q2779 (C_X3_pieceComes h0) (by decide) (As := [_]) rfl rfl (Nat.le_of_ble_eq_true rfl) (Nat.zero_le _) (Nat.zero_le _) (mhas hA) (⟨_, _, _, _, _, q, hA, rfl, rfl, by omega, ?_⟩)
      exact z_iret G dX3_doesNow_96 rfl rfl (by have h := hK0 (r_pcs (r_pcm w q) 6); simpa [d_now, e] using h)
    · refine z_tableIn G dX3_doesNow_4 (by decide) (by decide) (off := 93) rfl (tgt := 97) (by decide) ?_
      have ho : o_scr w x = none := by simpa [o_now] using hp5
      obtain ⟨q, rfl, q2, q3⟩ := scr_N ho
      have e : pN (nI q) = q := pN_of rfl (by omega)
      refine z_aload_n G dX3_doesNow_97 rfl rfl rfl ?_
      refine z_aload_n G dX3_doesNow_98 rfl rfl rfl ?_
      refine mz_get G hA dX3_doesNow_99 rfl (j := 18) fl_X3_36_2 rfl ?_
      refine z_iconst G dX3_doesNow_102 rfl (v := 0) (by decide) ?_
      refine mz_ild G hA 18 (by decide) rfl dX3_doesNow_103 rfl (0) rfl (by decide) (by decide) ?_
      rw [hp3]
      refine z_V G dX3_doesNow_104 rfl m_X3_scares q2917 (C_X3_scares h0) (by decide) (As := [_]) rfl rfl (Nat.le_of_ble_eq_true rfl) (Nat.zero_le _) (Nat.zero_le _) (mhas hA) (⟨_, _, _, _, _, q, hA, rfl, rfl, by omega, q3, ?_⟩)
      exact z_iret G dX3_doesNow_107 rfl rfl (by have h := hK0 (nI (r_nxt w 8 ((q + 1) % 8))); simpa [d_now, e] using h)
    · refine z_tableIn G dX3_doesNow_4 (by decide) (by decide) (off := 104) rfl (tgt := 108) (by decide) ?_
      have ho : o_drp w x y = none := by simpa [o_now] using hp5
      obtain ⟨q, r, rfl, q2, rfl, q4⟩ := drp_N d2 d3 ho
      have e : pN (nI q) = q := pN_of rfl (by omega)
      have e1 : pN (nI r) = r := pN_of rfl (by omega)
      refine z_aload_n G dX3_doesNow_108 rfl rfl rfl ?_
      refine z_aload_n G dX3_doesNow_109 rfl rfl rfl ?_
      refine mz_get G hA dX3_doesNow_110 rfl (j := 18) fl_X3_36_2 rfl ?_
      refine z_iconst G dX3_doesNow_113 rfl (v := 0) (by decide) ?_
      refine mz_ild G hA 18 (by decide) rfl dX3_doesNow_114 rfl (0) rfl (by decide) (by decide) ?_
      refine z_aload_n G dX3_doesNow_115 rfl rfl rfl ?_
      refine mz_get G hA dX3_doesNow_116 rfl (j := 18) fl_X3_36_2 rfl ?_
      refine z_iconst G dX3_doesNow_119 rfl (v := 1) (by decide) ?_
      refine mz_ild G hA 18 (by decide) rfl dX3_doesNow_120 rfl (1) rfl (by decide) (by decide) ?_
      rw [hp3, hp4]
      refine z_V G dX3_doesNow_121 rfl m_X3_drops q2866 (C_X3_drops h0) (by decide) (As := [_, _]) rfl rfl (Nat.le_of_ble_eq_true rfl) (Nat.zero_le _) (Nat.zero_le _) (mhas hA) (⟨_, _, _, _, _, q, r, hA, rfl, rfl, by omega, by omega, ?_⟩)
      exact z_iret G dX3_doesNow_124 rfl rfl (by have h := hK0 (pw (r_drp w q r) q 1); simpa [d_now, e, e1] using h)
    · refine z_tableOut G dX3_doesNow_4 hsw.1 (tgt := 125) (by decide) ?_
      have ho : o_hour x = none := by simpa [o_now, hsw] using hp5
      obtain ⟨q, rfl, q2⟩ := hour_N ho
      have e : pN (nI q) = q := pN_of rfl (by omega)
      refine z_aload_n G dX3_doesNow_125 rfl rfl rfl ?_
      refine z_aload_n G dX3_doesNow_126 rfl rfl rfl ?_
      refine mz_get G hA dX3_doesNow_127 rfl (j := 18) fl_X3_36_2 rfl ?_
      refine z_iconst G dX3_doesNow_130 rfl (v := 0) (by decide) ?_
      refine mz_ild G hA 18 (by decide) rfl dX3_doesNow_131 rfl (0) rfl (by decide) (by decide) ?_
      rw [hp3]
      refine z_V G dX3_doesNow_132 rfl m_X3_passes q2933 (C_X3_passes h0) (by decide) (As := [_]) rfl rfl (Nat.le_of_ble_eq_true rfl) (Nat.zero_le _) (Nat.zero_le _) (mhas hA) (⟨_, _, _, _, _, q, hN w, lNn w, hA, rfl, rfl, d0, by omega, d6, d7, by omega, ?_⟩)
      exact z_iret G dX3_doesNow_135 rfl rfl (by have h := hK0 (nI (r_pad w q)); simpa [d_now, e, hsw] using h)
