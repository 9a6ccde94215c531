/-! THE REFERENCE: doing the orders of a text -/
def T_X3_doesAll : List Value → Hp → (Res → Hp → Prop) → Prop := fun av g K => ∃ (A : Nat → Nat) (S : Nat → Int32) (F : Nat → Nat → Int32) (w : Nat → Int32) (g0 : Hp) (t : Tx) (len B : Nat), mok A ∧ g = mdl A (tS S t) (tF F t) w g0 ∧ av = [.ref (A 0)] ∧ S 15 = nI len ∧ len ≤ 60 ∧ rok B w ∧ B + 48 * 62 < 2 ^ 29 ∧ K (.inl (some (.int (bI (x_do (F 14) len 61 (0, t.2) w 0).1)))) (mdl A (tS (nS (dS S (x_do (F 14) len 61 (0, t.2) w 0).2.2.2.1) (x_do (F 14) len 61 (0, t.2) w 0).2.2.2.2) (x_do (F 14) len 61 (0, t.2) w 0).2.1) (tF F (x_do (F 14) len 61 (0, t.2) w 0).2.1) (x_do (F 14) len 61 (0, t.2) w 0).2.2.1 g0)
theorem C_X3_doesAll {l : Launch} {s0 : State} (h0 : St0 l s0) : Ctr l s0 yX3_doesAll (ws_ yX3_doesAll cX3_doesAll 2 (Option.some Jvm.ClassFile.FieldType.boolean)) 7 0 0 T_X3_doesAll := by
  refine ctr_of h0 (by decide) ?_ ?_
  · rintro av g K ⟨A, S, F, w, g0, t, len, B, hA, rfl, rfl, hl0, hl1, hrk, hBB, hK⟩
    exact Nat.le_of_ble_eq_true rfl
  · rintro Z X av g K G ⟨A, S, F, w, g0, t, len, B, hA, rfl, rfl, hl0, hl1, hrk, hBB, hK⟩
    show Z 0 [some (.ref (A 0)), none] [] _ _ _
    refine z_aload_n G dX3_doesAll_0 rfl rfl rfl ?_
    refine z_iconst G dX3_doesAll_1 rfl (v := 0) (by decide) ?_
    refine mz_put G hA dX3_doesAll_2 rfl (j := 20) fl_X3_277_2p rfl rfl (by decide) rfl ?_
    rw [tS_o (by decide) (by decide), dS_0]
    refine z_aload_n G dX3_doesAll_5 rfl rfl rfl ?_
    refine z_iconst G dX3_doesAll_6 rfl (v := 0) (by decide) ?_
    refine mz_put G hA dX3_doesAll_7 rfl (j := 16) fl_X3_246_2p rfl rfl (by decide) rfl ?_
    rw [tS_at (x := 0) (a := 0) rfl]
    show Z 10 _ _ (mdl A (tS (dS S 0) (0, t.2)) (tF F (0, t.2)) w g0) _ _
    have L57 : ∀ (t : Tx) (w1 : Nat → Int32) (d : Nat), K (.inl (some (.int 1))) (mdl A (tS (dS S d) t) (tF F t) w1 g0) → Z 12 [some (.ref (A 0)), some (.int 0)] [] (mdl A (tS (dS S d) t) (tF F t) w1 g0) 0 0 := by
      intro t w1 d hK
      refine z_iload_n G dX3_doesAll_12 rfl rfl rfl ?_
      refine z_if_eq G dX3_doesAll_13 rfl (tgt := 57) (by decide) (fun c_13 => ?_) (fun c_13 => ?_)
      · refine z_iconst G dX3_doesAll_57 rfl (v := 1) (by decide) ?_
        exact z_iret G dX3_doesAll_58 rfl (by first | rfl | exact bI_nar _) (hK)
      · exact absurd rfl c_13
    refine z_iconst G dX3_doesAll_10 rfl (v := 1) (by decide) ?_
    refine z_istore_n G dX3_doesAll_11 rfl (i := 1) rfl (by decide) (zcat_s rfl) (show Z 12 [_, _] _ _ _ _ from ?_)
    have L12 : ∀ (n d B1 : Nat) (t1 : Tx) (w1 : Nat → Int32), t1.1 ≤ len → len < n + t1.1 → rok B1 w1 → B1 + 48 * n < 2 ^ 29 → K (.inl (some (.int (bI (x_do (F 14) len n t1 w1 d).1)))) (mdl A (tS (nS (dS S (x_do (F 14) len n t1 w1 d).2.2.2.1) (x_do (F 14) len n t1 w1 d).2.2.2.2) (x_do (F 14) len n t1 w1 d).2.1) (tF F (x_do (F 14) len n t1 w1 d).2.1) (x_do (F 14) len n t1 w1 d).2.2.1 g0) → Z 12 [some (.ref (A 0)), some (.int 1)] [] (mdl A (tS (dS S d) t1) (tF F t1) w1 g0) 0 0 := by
      intro n
      induction n with
      | zero =>
        intro d B1 t1 w1 h1 h2 h3 h4 hK
        exact absurd h2 (by omega)
      | succ n ih =>
        intro d B1 t1 w1 h1 h2 h3 h4 hK
        generalize hso : (tx_or (F 14) len t1).2.2.1 = so
        generalize hx : (tx_or (F 14) len t1).2.2.2 0 = x
        generalize hy : (tx_or (F 14) len t1).2.2.2 1 = y
        rw [x_do, hso, hx, hy] at hK
        refine z_iload_n G dX3_doesAll_12 rfl rfl rfl ?_
        refine z_if_eq G dX3_doesAll_13 rfl (tgt := 57) (by decide) (fun c_13 => ?_) (fun c_13 => ?_)
        · exact absurd c_13 (by decide)
        · refine z_aload_n G dX3_doesAll_16 rfl rfl rfl ?_
          refine z_V G dX3_doesAll_17 rfl m_X3_readsOrder q3069 (C_X3_readsOrder h0) (by decide) (As := []) rfl rfl (Nat.le_of_ble_eq_true rfl) (Nat.zero_le _) (Nat.zero_le _) (mhas hA) (⟨_, _, _, _, _, _, _, hA, rfl, rfl, hl0, hl1, h1, ?_⟩)
          refine z_if_eq G dX3_doesAll_20 rfl (tgt := 30) (by decide) (fun c_20 => ?_) (fun c_20 => ?_)
          · have c_20b := bI_f c_20
            rw [if_neg (by rw [c_20b]; decide)] at hK
            refine z_iconst G dX3_doesAll_30 rfl (v := 0) (by decide) ?_
            exact z_iret G dX3_doesAll_31 rfl (by first | rfl | exact bI_nar _) (hK)
          · have c_20b := bI_t c_20
            have ho := c_20b
            obtain ⟨ho1, ho2⟩ := txor_t c_20b
            rw [if_pos ho] at hK
            refine z_aload_n G dX3_doesAll_23 rfl rfl rfl ?_
            refine z_V G dX3_doesAll_24 rfl m_X3_notNow q3105 (C_X3_notNow h0) (by decide) (As := []) rfl rfl (Nat.le_of_ble_eq_true rfl) (Nat.zero_le _) (Nat.zero_le _) (mhas hA) (⟨_, _, _, _, _, B1, so, x, y, hA, rfl, rfl, h3, by omega, hso, hx, hy, ?_⟩)
            refine z_if_eq G dX3_doesAll_27 rfl (tgt := 32) (by decide) (fun c_27 => ?_) (fun c_27 => ?_)
            · have ho3 := nrv_0 c_27
              rw [ho3]
              rw [ho3] at hK
              refine z_aload_n G dX3_doesAll_32 rfl rfl rfl ?_
              refine z_V G dX3_doesAll_33 rfl m_X3_doesNow q3109 (C_X3_doesNow h0) (by decide) (As := []) rfl rfl (Nat.le_of_ble_eq_true rfl) (Nat.zero_le _) (Nat.zero_le _) (mhas hA) (⟨_, _, _, _, _, B1, so, x, y, hA, rfl, rfl, h3, by omega, hso, hx, hy, ho3, fun v => ?_⟩)
              refine z_pop G dX3_doesAll_36 rfl rfl ?_
              show Z 37 _ _ (mdl A (tS (dS S d) (tx_or (F 14) len t1).2) (tF F (tx_or (F 14) len t1).2) (d_now w1 so x y) g0) _ _
              refine z_aload_n G dX3_doesAll_37 rfl rfl rfl ?_
              refine z_dup G dX3_doesAll_38 rfl rfl ?_
              refine mz_get G hA dX3_doesAll_39 rfl (j := 20) fl_X3_277_2 rfl ?_
              refine z_iconst G dX3_doesAll_42 rfl (v := 1) (by decide) ?_
              refine z_iadd G dX3_doesAll_43 rfl ?_
              refine mz_put G hA dX3_doesAll_44 rfl (j := 20) fl_X3_277_2p rfl rfl (by decide) rfl ?_
              rw [tS_o (by decide) (by decide), show tS (dS S d) (tx_or (F 14) len t1).2 20 + 1 = nI (d + 1) from nI_1 d, dS_s]
              show Z 47 _ _ (mdl A (tS (dS S (d + 1)) (tx_or (F 14) len t1).2) (tF F (tx_or (F 14) len t1).2) (d_now w1 so x y) g0) _ _
              refine z_aload_n G dX3_doesAll_47 rfl rfl rfl ?_
              refine z_bipush G dX3_doesAll_48 rfl (v := 59) (by decide) ?_
              refine z_V G dX3_doesAll_50 rfl m_X3_reads q3077 (C_X3_reads h0) (by decide) (As := [_]) rfl rfl (Nat.le_of_ble_eq_true rfl) (Nat.zero_le _) (Nat.zero_le _) (mhas hA) (⟨_, _, _, _, _, _, _, _, hA, rfl, rfl, hl0, hl1, ho2, ?_⟩)
              cases hr : (tx_rd (F 14) len 59 (tx_or (F 14) len t1).2).1 with
              | true =>
                obtain ⟨hr1, hr2⟩ := txrd_t hr (by decide)
                refine z_istore_n G dX3_doesAll_53 rfl (i := 1) rfl (by decide) (zcat_s rfl) (show Z 54 [_, _] _ _ _ _ from ?_)
                refine z_goto G dX3_doesAll_54 (tgt := 12) (by decide) ?_
                exact ih (d + 1) (B1 + 48) _ _ (by omega) (by omega) (rok_now (by omega) h3 ho3) (by omega) (by simp only [if_pos hr] at hK; exact hK)
              | false =>
                simp only [if_neg (show ¬ (tx_rd (F 14) len 59 (tx_or (F 14) len t1).2).1 = true by rw [hr]; decide)] at hK
                rw [txrd_f hr]
                refine z_istore_n G dX3_doesAll_53 rfl (i := 1) rfl (by decide) (zcat_s rfl) (show Z 54 [_, _] _ _ _ _ from ?_)
                refine z_goto G dX3_doesAll_54 (tgt := 12) (by decide) ?_
                exact L57 _ _ _ hK
            · obtain ⟨yy, ho3⟩ := nrv_n c_27
              rw [ho3]
              rw [ho3] at hK
              refine z_iconst G dX3_doesAll_30 rfl (v := 0) (by decide) ?_
              exact z_iret G dX3_doesAll_31 rfl (by first | rfl | exact bI_nar _) (by rw [tS_nS]; exact hK)
    exact L12 61 0 B (0, t.2) w (Nat.zero_le _) (by show len < 61 + 0; omega) hrk (by omega) hK
