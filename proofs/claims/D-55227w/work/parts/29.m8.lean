/-! THE REFERENCE: sorting, mending on, smoking on -/
def T_X3_sort : List Value → Hp → (Res → Hp → Prop) → Prop := fun av g K => ∃ (A : Nat → Nat) (S : Nat → Int32) (F : Nat → Nat → Int32) (w : Nat → Int32) (g0 : Hp) (c f : Nat) (nb : Nat), mok A ∧ g = mdl A S F w g0 ∧ av = [.ref (A 0)] ∧ S 11 = nI c ∧ c ≤ 8 ∧ S 12 = nI f ∧ f < 8 ∧ w 3 = nI nb ∧ nb ≤ 10 ∧ r_bok w nb ∧ (∀ y, (o_srt w) = some y → K (.inl (some (.int 0))) (mdl A (upd (nS (upd S 0 0) (some y)) 0 1) (m_ref (nS (upd S 0 0) (some y)) F) w g0)) ∧ ((o_srt w) = none → K (.inl (some (.int (r_sro (nb - 1) 1 w 12)))) (mdl A (m_kmS (upd S 0 0) c f) (m_rem F w c f upA) (r_sro (nb - 1) 1 w) g0))
theorem C_X3_sort {l : Launch} {s0 : State} (h0 : St0 l s0) : Ctr l s0 yX3_sort (ws_ yX3_sort cX3_sort 4 (Option.some Jvm.ClassFile.FieldType.int)) 3 0 0 T_X3_sort := by
  refine ctr_of h0 (by decide) ?_ ?_
  · rintro av g K ⟨A, S, F, w, g0, c, f, nb, hA, rfl, rfl, hc0, hc1, hc2, hc3, hp0, hp1, hp2, hR, hK⟩
    exact Nat.le_of_ble_eq_true rfl
  · rintro Z X av g K G ⟨A, S, F, w, g0, c, f, nb, hA, rfl, rfl, hc0, hc1, hc2, hc3, hp0, hp1, hp2, hR, hK⟩
    show Z 0 [some (.ref (A 0)), none, none, none] [] _ _ _
    refine z_aload_n G dX3_sort_0 rfl rfl rfl ?_
    refine z_iconst G dX3_sort_1 rfl (v := 0) (by decide) ?_
    refine mz_put G hA dX3_sort_2 rfl (j := 0) fl_X3_42_2p rfl rfl (by decide) rfl ?_
    refine z_aload_n G dX3_sort_5 rfl rfl rfl ?_
    refine mz_get G hA dX3_sort_6 rfl (j := 7) fl_X3_16_2 rfl ?_
    refine z_iconst G dX3_sort_9 rfl (v := 3) (by decide) ?_
    refine mz_wldN G hA dX3_sort_10 rfl (3) rfl (by decide) (nb) hp0 ?_
    refine z_if_ne G dX3_sort_11 rfl (tgt := 27) (by decide) (fun c_11 => ?_) (fun c_11 => ?_)
    · have c_11N := (not_congr <| nI_eq (a := nb) (b := 0) (by omega) (by omega)).mp c_11
      have c_11 : ¬ w 3 = 0 := fun e => c_11 (hp0.symm.trans e)
      refine z_aload_n G dX3_sort_27 rfl rfl rfl ?_
      refine z_V G dX3_sort_28 rfl m_X3_remembers q2687 (C_X3_remembers h0) (by decide) (As := []) rfl rfl (Nat.le_of_ble_eq_true rfl) (Nat.zero_le _) (Nat.zero_le _) (mhas hA) (⟨_, _, _, _, _, _, _, hA, rfl, rfl, (by first | assumption | decide | omega), (by first | assumption | decide | omega), (by first | assumption | decide | omega), (by first | assumption | decide | omega), ?_⟩)
      refine z_iconst G dX3_sort_31 rfl (v := 1) (by decide) ?_
      refine z_istore_n G dX3_sort_32 rfl (i := 1) rfl (by decide) (zcat_s rfl) (show Z 33 [_, _, _, _] _ _ _ _ from ?_)
      have L33 : ∀ (n i : Nat) (w1 : Nat → Int32) (o2 o3 : Option Value), i + n = nb → 1 ≤ i → w1 3 = nI nb → r_bok w1 nb → K (.inl (some (.int (r_sro n i w1 12)))) (mdl A (m_kmS (upd S 0 0) c f) (m_rem F w c f upA) (r_sro n i w1) g0) → Z 33 [some (.ref (A 0)), some (.int (nI i)), o2, o3] [] (mdl A (m_kmS (upd S 0 0) c f) (m_rem F w c f upA) w1 g0) 0 0 := by
        intro n
        induction n with
        | zero =>
          intro i w1 o2 o3 hi h1 h3 hb hK1
          refine z_iload_n G dX3_sort_33 rfl rfl rfl ?_
          refine z_aload_n G dX3_sort_34 rfl rfl rfl ?_
          refine mz_get G hA dX3_sort_35 rfl (j := 7) fl_X3_16_2 rfl ?_
          refine z_iconst G dX3_sort_38 rfl (v := 3) (by decide) ?_
          refine mz_wldN G hA dX3_sort_39 rfl (3) rfl (by decide) (nb) h3 ?_
          refine z_icmp_ge G dX3_sort_40 rfl (tgt := 124) (by decide) (fun c_40 => ?_) (fun c_40 => ?_)
          · have c_40n := Int32.not_lt.mpr c_40
            have c_40N := (nI_leI (a := nb) (b := i) (by omega) (by omega)).mp c_40
            refine z_aload_n G dX3_sort_124 rfl rfl rfl ?_
            refine mz_get G hA dX3_sort_125 rfl (j := 7) fl_X3_16_2 rfl ?_
            refine z_bipush G dX3_sort_128 rfl (v := 12) (by decide) ?_
            refine mz_wld G hA dX3_sort_130 rfl (12) rfl (by decide) ?_
            exact z_iret G dX3_sort_131 rfl rfl (hK1)
          · exact absurd ((not_congr <| nI_leI (a := nb) (b := i) (by omega) (by omega)).mp c_40) (by omega)
        | succ n ih =>
          intro i w1 o2 o3 hi h1 h3 hb hK1
          obtain ⟨hpe, hpi⟩ := hb i (by omega)
          refine z_iload_n G dX3_sort_33 rfl rfl rfl ?_
          refine z_aload_n G dX3_sort_34 rfl rfl rfl ?_
          refine mz_get G hA dX3_sort_35 rfl (j := 7) fl_X3_16_2 rfl ?_
          refine z_iconst G dX3_sort_38 rfl (v := 3) (by decide) ?_
          refine mz_wldN G hA dX3_sort_39 rfl (3) rfl (by decide) (nb) h3 ?_
          refine z_icmp_ge G dX3_sort_40 rfl (tgt := 124) (by decide) (fun c_40 => ?_) (fun c_40 => ?_)
          · exact absurd ((nI_leI (a := nb) (b := i) (by omega) (by omega)).mp c_40) (by omega)
          · have c_40n := Int32.not_le.mp c_40
            have c_40N := (not_congr <| nI_leI (a := nb) (b := i) (by omega) (by omega)).mp c_40
            refine z_aload_n G dX3_sort_43 rfl rfl rfl ?_
            refine mz_get G hA dX3_sort_44 rfl (j := 7) fl_X3_16_2 rfl ?_
            refine z_bipush G dX3_sort_47 rfl (v := 12) (by decide) ?_
            refine z_iload_n G dX3_sort_49 rfl rfl rfl ?_
            refine z_iaddN G (12) (i) rfl rfl dX3_sort_50 rfl ?_
            refine mz_wldN G hA dX3_sort_51 rfl (12 + i) rfl (by omega) ((bnN w1 i)) hpe ?_
            refine z_istore_n G dX3_sort_52 rfl (i := 2) rfl (by decide) (zcat_s rfl) (show Z 53 [_, _, _, _] _ _ _ _ from ?_)
            refine z_iload_n G dX3_sort_53 rfl rfl rfl ?_
            refine z_istore_n G dX3_sort_54 rfl (i := 3) rfl (by decide) (zcat_s rfl) (show Z 55 [_, _, _, _] _ _ _ _ from ?_)
            have L55 : ∀ (k : Nat) (w2 : Nat → Int32), k ≤ i → w2 3 = nI nb → r_bok w2 nb → K (.inl (some (.int (r_sro n (i + 1) (r_sin (bnN w1 i) k w2) 12)))) (mdl A (m_kmS (upd S 0 0) c f) (m_rem F w c f upA) (r_sro n (i + 1) (r_sin (bnN w1 i) k w2)) g0) → Z 55 [some (.ref (A 0)), some (.int (nI i)), some (.int (nI (bnN w1 i))), some (.int (nI k))] [] (mdl A (m_kmS (upd S 0 0) c f) (m_rem F w c f upA) w2 g0) 0 0 := by
              intro k
              induction k with
              | zero =>
                intro w2 hk h3 hb hK2
                refine z_iload_n G dX3_sort_55 rfl rfl rfl ?_
                refine z_if_le G dX3_sort_56 rfl (tgt := 108) (by decide) (fun c_56 => ?_) (fun c_56 => ?_)
                · have c_56n := Int32.not_lt.mpr c_56
                  have c_56N := (nI_leI (a := 0) (b := 0) (by omega) (by omega)).mp c_56
                  refine z_aload_n G dX3_sort_108 rfl rfl rfl ?_
                  refine mz_get G hA dX3_sort_109 rfl (j := 7) fl_X3_16_2 rfl ?_
                  refine z_bipush G dX3_sort_112 rfl (v := 12) (by decide) ?_
                  refine z_iload_n G dX3_sort_114 rfl rfl rfl ?_
                  refine z_iaddN G (12) (0) rfl rfl dX3_sort_115 rfl ?_
                  refine z_iload_n G dX3_sort_116 rfl rfl rfl ?_
                  refine mz_wst G hA dX3_sort_117 rfl (12 + 0) rfl (by omega) ?_
                  refine z_iinc G dX3_sort_118 rfl rfl (nI_1 _) (by decide) (zcat_s rfl) (show Z 121 [_, _, _, _] _ _ _ _ from ?_)
                  refine z_goto G dX3_sort_121 (tgt := 33) (by decide) ?_
                  exact ih (i + 1) _ _ _ (by omega) (by omega) (by rw [upd_n (by omega)]; exact h3) (bok_upd hb hpi) hK2
                · exact absurd ((not_congr <| nI_leI (a := 0) (b := 0) (by omega) (by omega)).mp c_56) (by omega)
              | succ k ih2 =>
                intro w2 hk h3 hb hK2
                have qk := (hb k (by omega)).2
                refine z_iload_n G dX3_sort_55 rfl rfl rfl ?_
                refine z_if_le G dX3_sort_56 rfl (tgt := 108) (by decide) (fun c_56 => ?_) (fun c_56 => ?_)
                · exact absurd ((nI_leI (a := (k + 1)) (b := 0) (by omega) (by omega)).mp c_56) (by omega)
                · have c_56n := Int32.not_le.mp c_56
                  have c_56N := (not_congr <| nI_leI (a := (k + 1)) (b := 0) (by omega) (by omega)).mp c_56
                  refine z_aload_n G dX3_sort_59 rfl rfl rfl ?_
                  refine z_aload_n G dX3_sort_60 rfl rfl rfl ?_
                  refine mz_get G hA dX3_sort_61 rfl (j := 7) fl_X3_16_2 rfl ?_
                  refine z_bipush G dX3_sort_64 rfl (v := 12) (by decide) ?_
                  refine z_iload_n G dX3_sort_66 rfl rfl rfl ?_
                  refine z_iaddN G (12) ((k + 1)) rfl rfl dX3_sort_67 rfl ?_
                  refine z_iconst G dX3_sort_68 rfl (v := 1) (by decide) ?_
                  refine z_isubN G (12 + ((k + 1))) (1) rfl rfl (by omega) dX3_sort_69 rfl ?_
                  refine mz_wldN G hA dX3_sort_70 rfl (12 + ((k + 1)) - 1) rfl (by omega) ((bnN w2 k)) (show w2 (12 + (k + 1) - 1) = nI (bnN w2 k) from (hb k (by omega)).1) ?_
                  refine z_V G dX3_sort_71 rfl m_X3_lumpsOf q2747 (C_X3_lumpsOf h0) (by decide) (As := [_]) rfl rfl (Nat.le_of_ble_eq_true rfl) (Nat.zero_le _) (Nat.zero_le _) (mhas hA) (⟨_, _, _, _, _, _, hA, rfl, rfl, (by first | assumption | decide | omega), ?_⟩)
                  refine z_aload_n G dX3_sort_74 rfl rfl rfl ?_
                  refine z_iload_n G dX3_sort_75 rfl rfl rfl ?_
                  refine z_V G dX3_sort_76 rfl m_X3_lumpsOf q2747 (C_X3_lumpsOf h0) (by decide) (As := [_]) rfl rfl (Nat.le_of_ble_eq_true rfl) (Nat.zero_le _) (Nat.zero_le _) (mhas hA) (⟨_, _, _, _, _, _, hA, rfl, rfl, (by first | assumption | decide | omega), ?_⟩)
                  refine z_icmp_le G dX3_sort_79 rfl (tgt := 108) (by decide) (fun c_79 => ?_) (fun c_79 => ?_)
                  · have c_79n := Int32.not_lt.mpr c_79
                    refine z_aload_n G dX3_sort_108 rfl rfl rfl ?_
                    refine mz_get G hA dX3_sort_109 rfl (j := 7) fl_X3_16_2 rfl ?_
                    refine z_bipush G dX3_sort_112 rfl (v := 12) (by decide) ?_
                    refine z_iload_n G dX3_sort_114 rfl rfl rfl ?_
                    refine z_iaddN G (12) ((k + 1)) rfl rfl dX3_sort_115 rfl ?_
                    refine z_iload_n G dX3_sort_116 rfl rfl rfl ?_
                    refine mz_wst G hA dX3_sort_117 rfl (12 + ((k + 1))) rfl (by omega) ?_
                    refine z_iinc G dX3_sort_118 rfl rfl (nI_1 _) (by decide) (zcat_s rfl) (show Z 121 [_, _, _, _] _ _ _ _ from ?_)
                    refine z_goto G dX3_sort_121 (tgt := 33) (by decide) ?_
                    exact ih (i + 1) _ _ _ (by omega) (by omega) (by rw [upd_n (by omega)]; exact h3) (bok_upd hb hpi) (by rw [r_sin, if_pos c_79] at hK2; exact hK2)
                  · have c_79n := Int32.not_le.mp c_79
                    refine z_aload_n G dX3_sort_82 rfl rfl rfl ?_
                    refine mz_get G hA dX3_sort_83 rfl (j := 7) fl_X3_16_2 rfl ?_
                    refine z_bipush G dX3_sort_86 rfl (v := 12) (by decide) ?_
                    refine z_iload_n G dX3_sort_88 rfl rfl rfl ?_
                    refine z_iaddN G (12) ((k + 1)) rfl rfl dX3_sort_89 rfl ?_
                    refine z_aload_n G dX3_sort_90 rfl rfl rfl ?_
                    refine mz_get G hA dX3_sort_91 rfl (j := 7) fl_X3_16_2 rfl ?_
                    refine z_bipush G dX3_sort_94 rfl (v := 12) (by decide) ?_
                    refine z_iload_n G dX3_sort_96 rfl rfl rfl ?_
                    refine z_iaddN G (12) ((k + 1)) rfl rfl dX3_sort_97 rfl ?_
                    refine z_iconst G dX3_sort_98 rfl (v := 1) (by decide) ?_
                    refine z_isubN G (12 + ((k + 1))) (1) rfl rfl (by omega) dX3_sort_99 rfl ?_
                    refine mz_wld G hA dX3_sort_100 rfl (12 + ((k + 1)) - 1) rfl (by omega) ?_
                    refine mz_wst G hA dX3_sort_101 rfl (12 + ((k + 1))) rfl (by omega) ?_
                    refine z_iinc G dX3_sort_102 rfl rfl (dec_1 _) (by decide) (zcat_s rfl) (show Z 105 [_, _, _, _] _ _ _ _ from ?_)
                    refine z_goto G dX3_sort_105 (tgt := 55) (by decide) ?_
                    rw [nI_pred]; exact ih2 _ (by omega) (by rw [upd_n (by omega)]; exact h3) (by have e := (hb k (by omega)).1; show r_bok (upd w2 (12 + (k + 1)) (w2 (12 + k))) nb; rw [e]; exact bok_upd hb qk) (by rw [r_sin, if_neg c_79] at hK2; exact hK2)
            exact L55 i w1 (Nat.le_refl _) h3 hb hK1
      exact L33 (nb - 1) 1 w _ _ (by omega) (by decide) hp0 hp2 (hK (if_neg c_11))
    · have c_11N := (nI_eq (a := nb) (b := 0) (by omega) (by omega)).mp c_11
      have ho : o_srt w = some (7, 0, 0, 0) := if_pos (hp0.trans (by rw [c_11N]; rfl))
      refine z_aload_n G dX3_sort_14 rfl rfl rfl ?_
      refine z_bipush G dX3_sort_15 rfl (v := 7) (by decide) ?_
      refine z_iconst G dX3_sort_17 rfl (v := 0) (by decide) ?_
      refine z_V G dX3_sort_18 rfl m_X3_isNot q2671 (C_X3_isNot h0) (by decide) (As := [_, _]) rfl rfl (Nat.le_of_ble_eq_true rfl) (Nat.zero_le _) (Nat.zero_le _) (mhas hA) (⟨_, _, _, _, _, _, _, hA, rfl, rfl, ?_⟩)
      refine z_pop G dX3_sort_21 rfl rfl ?_
      refine z_aload_n G dX3_sort_22 rfl rfl rfl ?_
      refine z_V G dX3_sort_23 rfl m_X3_refuses q2675 (C_X3_refuses h0) (by decide) (As := []) rfl rfl (Nat.le_of_ble_eq_true rfl) (Nat.zero_le _) (Nat.zero_le _) (mhas hA) (⟨_, _, _, _, _, hA, rfl, rfl, ?_⟩)
      exact z_iret G dX3_sort_26 rfl rfl (hR _ ho)
def T_X3_couldMend : List Value → Hp → (Res → Hp → Prop) → Prop := fun av g K => ∃ (A : Nat → Nat) (S : Nat → Int32) (F : Nat → Nat → Int32) (w : Nat → Int32) (g0 : Hp) (nb : Nat), mok A ∧ g = mdl A S F w g0 ∧ av = [.ref (A 0)] ∧ w 3 = nI nb ∧ nb ≤ 10 ∧ r_mok w nb ∧ K (.inl (some (.int (nI (r_cmd nb (upd S 0 0) w).2)))) (mdl A (r_cmd nb (upd S 0 0) w).1 (upA F 10 (va_cpy w (F 10) 0 0 99)) w g0)
theorem C_X3_couldMend {l : Launch} {s0 : State} (h0 : St0 l s0) : Ctr l s0 yX3_couldMend (ws_ yX3_couldMend cX3_couldMend 2 (Option.some Jvm.ClassFile.FieldType.int)) 4 0 0 T_X3_couldMend := by
  refine ctr_of h0 (by decide) ?_ ?_
  · rintro av g K ⟨A, S, F, w, g0, nb, hA, rfl, rfl, hp0, hp1, hp2, hK⟩
    exact Nat.le_of_ble_eq_true rfl
  · rintro Z X av g K G ⟨A, S, F, w, g0, nb, hA, rfl, rfl, hp0, hp1, hp2, hK⟩
    show Z 0 [some (.ref (A 0)), none] [] _ _ _
    refine z_aload_n G dX3_couldMend_0 rfl rfl rfl ?_
    refine z_iconst G dX3_couldMend_1 rfl (v := 0) (by decide) ?_
    refine mz_put G hA dX3_couldMend_2 rfl (j := 0) fl_X3_42_2p rfl rfl (by decide) rfl ?_
    refine z_aload_n G dX3_couldMend_5 rfl rfl rfl ?_
    refine z_V G dX3_couldMend_6 rfl m_X3_thinks q2691 (C_X3_thinks h0) (by decide) (As := []) rfl rfl (Nat.le_of_ble_eq_true rfl) (Nat.zero_le _) (Nat.zero_le _) (mhas hA) (⟨_, _, _, _, _, hA, rfl, rfl, ?_⟩)
    refine z_iconst G dX3_couldMend_9 rfl (v := 0) (by decide) ?_
    refine z_istore_n G dX3_couldMend_10 rfl (i := 1) rfl (by decide) (zcat_s rfl) (show Z 11 [_, _] _ _ _ _ from ?_)
    have L11 : ∀ (n k : Nat) (w1 : Nat → Int32), w1 3 = nI n → n ≤ 10 → r_mok w1 n → (∀ j, 99 ≤ j → w1 j = w j) → K (.inl (some (.int (nI (k + (r_cmd n (upd S 0 0) w1).2))))) (mdl A (r_cmd n (upd S 0 0) w1).1 (upA F 10 (va_cpy w (F 10) 0 0 99)) w g0) → Z 11 [some (.ref (A 0)), some (.int (nI k))] [] (mdl A (upd S 0 0) (upA F 10 (va_cpy w (F 10) 0 0 99)) w1 g0) 0 0 := by
      intro n
      induction n with
      | zero =>
        intro k w1 h3 h9 hm hcp hK
        refine z_aload_n G dX3_couldMend_11 rfl rfl rfl ?_
        refine mz_get G hA dX3_couldMend_12 rfl (j := 7) fl_X3_16_2 rfl ?_
        refine z_iconst G dX3_couldMend_15 rfl (v := 3) (by decide) ?_
        refine mz_wldN G hA dX3_couldMend_16 rfl (3) rfl (by decide) (0) h3 ?_
        refine z_if_le G dX3_couldMend_17 rfl (tgt := 45) (by decide) (fun c_17 => ?_) (fun c_17 => ?_)
        · have c_17n := Int32.not_lt.mpr c_17
          have c_17N := (nI_leI (a := 0) (b := 0) (by omega) (by omega)).mp c_17
          refine z_aload_n G dX3_couldMend_45 rfl rfl rfl ?_
          refine z_V G dX3_couldMend_46 rfl m_X3_forgets q2882 (C_X3_forgets h0) (by decide) (As := []) rfl rfl (Nat.le_of_ble_eq_true rfl) (Nat.zero_le _) (Nat.zero_le _) (mhas hA) (⟨_, _, _, _, _, hA, rfl, rfl, ?_⟩)
          refine z_iload_n G dX3_couldMend_49 rfl rfl rfl ?_
          exact z_iret G dX3_couldMend_50 rfl rfl (by rw [upA_s, cpy_back hcp]; exact hK)
        · exact absurd ((not_congr <| nI_leI (a := 0) (b := 0) (by omega) (by omega)).mp c_17) (by omega)
      | succ n ih =>
        intro k w1 h3 h9 hm hcp hK
        obtain ⟨q1, q2⟩ := hm.b 0 (by omega)
        obtain ⟨q3, q4⟩ := hm.s _ q2
        obtain ⟨q5, q6⟩ := hm.c _ q2
        refine z_aload_n G dX3_couldMend_11 rfl rfl rfl ?_
        refine mz_get G hA dX3_couldMend_12 rfl (j := 7) fl_X3_16_2 rfl ?_
        refine z_iconst G dX3_couldMend_15 rfl (v := 3) (by decide) ?_
        refine mz_wldN G hA dX3_couldMend_16 rfl (3) rfl (by decide) (n + 1) h3 ?_
        refine z_if_le G dX3_couldMend_17 rfl (tgt := 45) (by decide) (fun c_17 => ?_) (fun c_17 => ?_)
        · exact absurd ((nI_leI (a := n + 1) (b := 0) (by omega) (by omega)).mp c_17) (by omega)
        · have c_17n := Int32.not_le.mp c_17
          have c_17N := (not_congr <| nI_leI (a := n + 1) (b := 0) (by omega) (by omega)).mp c_17
          refine z_aload_n G dX3_couldMend_20 rfl rfl rfl ?_
          refine z_aload_n G dX3_couldMend_21 rfl rfl rfl ?_
          refine mz_get G hA dX3_couldMend_22 rfl (j := 7) fl_X3_16_2 rfl ?_
          refine z_bipush G dX3_couldMend_25 rfl (v := 12) (by decide) ?_
          refine mz_wldN G hA dX3_couldMend_27 rfl (12) rfl (by decide) ((bnN w1 0)) q1 ?_
          refine z_V G dX3_couldMend_28 rfl m_X3_notMended q2819 (C_X3_notMended h0) (by decide) (As := [_]) rfl rfl (Nat.le_of_ble_eq_true rfl) (Nat.zero_le _) (Nat.zero_le _) (mhas hA) (⟨_, _, _, _, _, bnN w1 0, stN w1 (bnN w1 0), hA, rfl, rfl, q2, q3, by omega, ?_⟩)
          refine z_if_ne G dX3_couldMend_31 rfl (tgt := 45) (by decide) (fun c_31 => ?_) (fun c_31 => ?_)
          · obtain ⟨y, ho⟩ := nrv_n c_31
            rw [ho]
            refine z_aload_n G dX3_couldMend_45 rfl rfl rfl ?_
            refine z_V G dX3_couldMend_46 rfl m_X3_forgets q2882 (C_X3_forgets h0) (by decide) (As := []) rfl rfl (Nat.le_of_ble_eq_true rfl) (Nat.zero_le _) (Nat.zero_le _) (mhas hA) (⟨_, _, _, _, _, hA, rfl, rfl, ?_⟩)
            refine z_iload_n G dX3_couldMend_49 rfl rfl rfl ?_
            exact z_iret G dX3_couldMend_50 rfl rfl (by rw [upA_s, cpy_back hcp]; simpa [r_cmd, ho] using hK)
          · have ho := nrv_0 c_31
            rw [ho]
            obtain ⟨lm, pc, e1, e2, e3, e4⟩ := mdd_none ho q5 q6 hm.l.1 hm.l.2
            have ep : pcN w1 (bnN w1 0) = pc := by unfold pcN; rw [e3]; exact nI_clamp (by omega)
            have hl := hm.l.2
            have el : lmN w1 (bnN w1 0) = lm := by unfold lmN; rw [e1]; exact nI_clamp (by omega)
            refine z_aload_n G dX3_couldMend_34 rfl rfl rfl ?_
            refine z_V G dX3_couldMend_35 rfl m_X3_mends q2831 (C_X3_mends h0) (by decide) (As := []) rfl rfl (Nat.le_of_ble_eq_true rfl) (Nat.zero_le _) (Nat.zero_le _) (mhas hA) (⟨_, _, _, _, _, bnN w1 0, stN w1 (bnN w1 0), pcN w1 (bnN w1 0), n + 1, lmN w1 (bnN w1 0), lNn w1, hA, rfl, rfl, q1, q2, q3, by omega, by rw [ep]; exact e3, by omega, by rw [el]; exact e1, by omega, hm.l.1, hm.l.2, h3, by omega, h9, ?_⟩)
            refine z_pop G dX3_couldMend_38 rfl rfl ?_
            refine z_iinc G dX3_couldMend_39 rfl rfl (nI_1 _) (by decide) (zcat_s rfl) (show Z 42 [_, _] _ _ _ _ from ?_)
            refine z_goto G dX3_couldMend_42 (tgt := 11) (by decide) ?_
            exact ih (k + 1) (r_mnw w1 (n + 1)) men_3 (by omega) (mok_men hm h9 (by omega) ho) (fun j hj => (men_99 (by rw [ep]; exact e4) q2 h9 hl hj).trans (hcp j hj)) (by simpa [r_cmd, ho, Nat.add_assoc, Nat.add_comm 1] using hK)
    exact L11 nb 0 w hp0 hp1 hp2 (fun _ _ => rfl) (by rw [Nat.zero_add]; exact hK)
def T_X3_smokes : List Value → Hp → (Res → Hp → Prop) → Prop := fun av g K => ∃ (A : Nat → Nat) (S : Nat → Int32) (F : Nat → Nat → Int32) (w : Nat → Int32) (g0 : Hp) (p : Int32) (nb pn : Nat), mok A ∧ g = mdl A S F w g0 ∧ av = [.ref (A 0), .int p] ∧ w 3 = nI nb ∧ nb ≤ 10 ∧ (isP w p = true → p = nI pn ∧ pn < 10) ∧ (isP w p = true → ∃ t, pw w pn 2 = nI t ∧ t ≤ 9) ∧ (isP w p = false → K (.inl (some (.int 0))) (mdl A (upd S 0 1) F w g0)) ∧ (isP w p = true → K (.inl (some (.int (nI (r_sml p nb pn 6 w).2)))) (mdl A (nS (upd S 0 0) (o_smk (r_sml p nb pn 6 w).1 p nb pn)) (upA F 10 (va_cpy w (F 10) 0 0 99)) w g0))
theorem C_X3_smokes {l : Launch} {s0 : State} (h0 : St0 l s0) : Ctr l s0 yX3_smokes (ws_ yX3_smokes cX3_smokes 3 (Option.some Jvm.ClassFile.FieldType.int)) 4 0 0 T_X3_smokes := by
  refine ctr_of h0 (by decide) ?_ ?_
  · rintro av g K ⟨A, S, F, w, g0, p, nb, pn, hA, rfl, rfl, hp0, hp1, hp2, hp3, hK0, hK1⟩
    exact Nat.le_of_ble_eq_true rfl
  · rintro Z X av g K G ⟨A, S, F, w, g0, p, nb, pn, hA, rfl, rfl, hp0, hp1, hp2, hp3, hK0, hK1⟩
    show Z 0 [some (.ref (A 0)), some (.int p), none] [] _ _ _
    refine z_aload_n G dX3_smokes_0 rfl rfl rfl ?_
    refine z_iconst G dX3_smokes_1 rfl (v := 0) (by decide) ?_
    refine mz_put G hA dX3_smokes_2 rfl (j := 0) fl_X3_42_2p rfl rfl (by decide) rfl ?_
    refine z_aload_n G dX3_smokes_5 rfl rfl rfl ?_
    refine z_iload_n G dX3_smokes_6 rfl rfl rfl ?_
    refine z_V G dX3_smokes_7 rfl m_X3_isPipe q2711 (C_X3_isPipe h0) (by decide) (As := [_]) rfl rfl (Nat.le_of_ble_eq_true rfl) (Nat.zero_le _) (Nat.zero_le _) (mhas hA) (⟨_, _, _, _, _, _, hA, rfl, rfl, ?_⟩)
    refine z_if_ne G dX3_smokes_10 rfl (tgt := 19) (by decide) (fun c_10 => ?_) (fun c_10 => ?_)
    · have c_10b := bI_t c_10
      have hq := c_10b
      obtain ⟨rfl, hq3⟩ := hp2 c_10b
      obtain ⟨t0, ht0, ht9⟩ := hp3 c_10b
      refine z_aload_n G dX3_smokes_19 rfl rfl rfl ?_
      refine z_V G dX3_smokes_20 rfl m_X3_thinks q2691 (C_X3_thinks h0) (by decide) (As := []) rfl rfl (Nat.le_of_ble_eq_true rfl) (Nat.zero_le _) (Nat.zero_le _) (mhas hA) (⟨_, _, _, _, _, hA, rfl, rfl, ?_⟩)
      refine z_iconst G dX3_smokes_23 rfl (v := 0) (by decide) ?_
      refine z_istore_n G dX3_smokes_24 rfl (i := 2) rfl (by decide) (zcat_s rfl) (show Z 25 [_, _, _] _ _ _ _ from ?_)
      have L25 : ∀ (n k t : Nat) (w1 : Nat → Int32), pw w1 pn 2 = nI t → t ≤ 9 → 6 ≤ n + t → w1 3 = nI nb → w1 2 = w 2 → (∀ j, 99 ≤ j → w1 j = w j) → K (.inl (some (.int (nI (k + (r_sml (nI pn) nb pn n w1).2))))) (mdl A (nS (upd S 0 0) (o_smk (r_sml (nI pn) nb pn n w1).1 (nI pn) nb pn)) (upA F 10 (va_cpy w (F 10) 0 0 99)) w g0) → Z 25 [some (.ref (A 0)), some (.int (nI pn)), some (.int (nI k))] [] (mdl A (upd S 0 0) (upA F 10 (va_cpy w (F 10) 0 0 99)) w1 g0) 0 0 := by
        intro n
        induction n with
        | zero =>
          intro k t w1 ht h9 hn h3 h2 hcp hK
          refine z_aload_n G dX3_smokes_25 rfl rfl rfl ?_
          refine z_iload_n G dX3_smokes_26 rfl rfl rfl ?_
          refine z_V G dX3_smokes_27 rfl m_X3_notSmoke q2843 (C_X3_notSmoke h0) (by decide) (As := [_]) rfl rfl (Nat.le_of_ble_eq_true rfl) (Nat.zero_le _) (Nat.zero_le _) (mhas hA) (⟨_, _, _, _, _, nI pn, nb, pn, hA, rfl, rfl, h3, hp1, fun _ => ⟨rfl, hq3⟩, ?_⟩)
          refine z_if_ne G dX3_smokes_30 rfl (tgt := 45) (by decide) (fun c_30 => ?_) (fun c_30 => ?_)
          · refine z_aload_n G dX3_smokes_45 rfl rfl rfl ?_
            refine z_V G dX3_smokes_46 rfl m_X3_forgets q2882 (C_X3_forgets h0) (by decide) (As := []) rfl rfl (Nat.le_of_ble_eq_true rfl) (Nat.zero_le _) (Nat.zero_le _) (mhas hA) (⟨_, _, _, _, _, hA, rfl, rfl, ?_⟩)
            refine z_iload_n G dX3_smokes_49 rfl rfl rfl ?_
            exact z_iret G dX3_smokes_50 rfl rfl (by rw [upA_s, cpy_back hcp]; exact hK)
          · exact absurd (smk_t (nrv_0 c_30) ht (by omega)) (by omega)
        | succ n ih =>
          intro k t w1 ht h9 hn h3 h2 hcp hK
          refine z_aload_n G dX3_smokes_25 rfl rfl rfl ?_
          refine z_iload_n G dX3_smokes_26 rfl rfl rfl ?_
          refine z_V G dX3_smokes_27 rfl m_X3_notSmoke q2843 (C_X3_notSmoke h0) (by decide) (As := [_]) rfl rfl (Nat.le_of_ble_eq_true rfl) (Nat.zero_le _) (Nat.zero_le _) (mhas hA) (⟨_, _, _, _, _, nI pn, nb, pn, hA, rfl, rfl, h3, hp1, fun _ => ⟨rfl, hq3⟩, ?_⟩)
          refine z_if_ne G dX3_smokes_30 rfl (tgt := 45) (by decide) (fun c_30 => ?_) (fun c_30 => ?_)
          · obtain ⟨y, ho⟩ := nrv_n c_30
            refine z_aload_n G dX3_smokes_45 rfl rfl rfl ?_
            refine z_V G dX3_smokes_46 rfl m_X3_forgets q2882 (C_X3_forgets h0) (by decide) (As := []) rfl rfl (Nat.le_of_ble_eq_true rfl) (Nat.zero_le _) (Nat.zero_le _) (mhas hA) (⟨_, _, _, _, _, hA, rfl, rfl, ?_⟩)
            refine z_iload_n G dX3_smokes_49 rfl rfl rfl ?_
            exact z_iret G dX3_smokes_50 rfl rfl (by rw [upA_s, cpy_back hcp]; simpa [r_sml, ho] using hK)
          · have ho := nrv_0 c_30
            have h4 := smk_t ho ht (by omega)
            rw [ho]
            refine z_aload_n G dX3_smokes_33 rfl rfl rfl ?_
            refine z_iload_n G dX3_smokes_34 rfl rfl rfl ?_
            refine z_V G dX3_smokes_35 rfl m_X3_smokesOnce q2851 (C_X3_smokesOnce h0) (by decide) (As := [_]) rfl rfl (Nat.le_of_ble_eq_true rfl) (Nat.zero_le _) (Nat.zero_le _) (mhas hA) (⟨_, _, _, _, _, _, hA, rfl, rfl, (by first | assumption | decide | omega), ?_⟩)
            refine z_pop G dX3_smokes_38 rfl rfl ?_
            refine z_iinc G dX3_smokes_39 rfl rfl (nI_1 _) (by decide) (zcat_s rfl) (show Z 42 [_, _, _] _ _ _ _ from ?_)
            refine z_goto G dX3_smokes_42 (tgt := 25) (by decide) ?_
            exact ih (k + 1) (t + 1) (r_smk w1 pn) (smk_2 ht h4) (by omega) (by omega) ((smk_o (by omega) (by omega) (by omega) (by omega)).trans h3) ((smk_o (by omega) (by omega) (by omega) (by omega)).trans h2) (fun j hj => (smk_o (by omega) (by omega) (by omega) (by omega)).trans (hcp j hj)) (by simpa [r_sml, ho, Nat.add_assoc, Nat.add_comm 1] using hK)
      exact L25 6 0 t0 w ht0 ht9 (by omega) hp0 rfl (fun _ _ => rfl) (by rw [Nat.zero_add]; exact hK1 hq)
    · have c_10b := bI_f c_10
      refine z_aload_n G dX3_smokes_13 rfl rfl rfl ?_
      refine z_iconst G dX3_smokes_14 rfl (v := 1) (by decide) ?_
      refine z_V G dX3_smokes_15 rfl m_X3_fails q2683 (C_X3_fails h0) (by decide) (As := [_]) rfl rfl (Nat.le_of_ble_eq_true rfl) (Nat.zero_le _) (Nat.zero_le _) (mhas hA) (⟨_, _, _, _, _, _, hA, rfl, rfl, ?_⟩)
      exact z_iret G dX3_smokes_18 rfl rfl (by rw [upd_upd]; exact hK0 c_10b)
