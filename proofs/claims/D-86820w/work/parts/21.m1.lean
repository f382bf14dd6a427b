set_option maxRecDepth 100000
theorem w_in (G : jj_G) (v lo9 hi9 : Int64) : jm_S G yX25_in cX25_in 6 (some .boolean) 0 0 [jL v, jL lo9, jL hi9] (some (jI (if lo9 ≤ v ∧ v ≤ hi9 then 1 else 0))) := by
  intro τ I L r
  refine jj_intro "BranchCellsModel" (by decide) rfl (Nat.le_of_ble_eq_true rfl) ?_
  intro X hG hX hr hN hC hF
  subst hG
  refine jj_lload_n (pc := 0) hX dX25_in_0 rfl ?_
  refine jj_lload_n (pc := 1) hX dX25_in_1 rfl ?_
  refine jj_lcmp (pc := 2) hX dX25_in_2 ?_
  refine jj_if_lt (pc := 3) hX 17 dX25_in_3 rfl (fun h3 => ?_) (fun h3 => ?_)
  · have h3 := (lg_cmp_lt v lo9).mp h3
    refine jj_iconst (pc := 17) hX (v := 0) dX25_in_17 (by decide) ?_
    refine jj_zret (pc := 18) hX dX25_in_18 hr ⟨Nat.le_refl _, Nat.le_refl _⟩ (by decide) ?_
    rw [if_neg (fun q => absurd q.1 (Int64.not_le.mpr h3))]
    exact ⟨rfl, rfl, rfl, rfl, rfl⟩
  · have h3 := (not_congr (lg_cmp_lt v lo9)).mp h3
    refine jj_lload_n (pc := 6) hX dX25_in_6 rfl ?_
    refine jj_lload (pc := 7) hX dX25_in_7 rfl ?_
    refine jj_lcmp (pc := 9) hX dX25_in_9 ?_
    refine jj_if_gt (pc := 10) hX 17 dX25_in_10 rfl (fun h10 => ?_) (fun h10 => ?_)
    · have h10 := (lg_cmp_gt v hi9).mp h10
      refine jj_iconst (pc := 17) hX (v := 0) dX25_in_17 (by decide) ?_
      refine jj_zret (pc := 18) hX dX25_in_18 hr ⟨Nat.le_refl _, Nat.le_refl _⟩ (by decide) ?_
      rw [if_neg (fun q => absurd q.2 (Int64.not_le.mpr h10))]
      exact ⟨rfl, rfl, rfl, rfl, rfl⟩
    · have h10 := (not_congr (lg_cmp_gt v hi9)).mp h10
      refine jj_iconst (pc := 13) hX (v := 1) dX25_in_13 (by decide) ?_
      refine jj_goto (pc := 14) hX 18 dX25_in_14 rfl ?_
      refine jj_zret (pc := 18) hX dX25_in_18 hr ⟨Nat.le_refl _, Nat.le_refl _⟩ (by decide) ?_
      rw [if_pos ⟨Int64.not_lt.mp h3, Int64.not_lt.mp h10⟩]
      exact ⟨rfl, rfl, rfl, rfl, rfl⟩

theorem w_fails (G : jj_G) (σ : jm) (t : Nat) (w : Int32) (ht : t < 85) : jm_M G yX25_fails cX25_fails 3 none 0 0 [jI (nI t), jI w] σ (m_fails t w σ) none := by
  refine jj_intro "BranchCellsModel" (by decide) rfl (Nat.le_of_ble_eq_true rfl) ?_
  intro X hG hX hr hN hC hF
  subst hG
  refine jj_aload_n (pc := 0) hX dX25_fails_0 rfl ?_
  refine jj_getR (pc := 1) hX (x := some 15) fl_X25_41_25 dX25_fails_1 rfl rfl rfl ?_
  refine jj_iload_n (pc := 4) hX dX25_fails_4 rfl ?_
  refine jj_iconst (pc := 5) hX (v := 3) dX25_fails_5 (by decide) ?_
  refine jj_iast (pc := 6) hX t dX25_fails_6 rfl rfl ⟨by omega, by omega⟩ ?_
  refine jj_aload_n (pc := 7) hX dX25_fails_7 rfl ?_
  refine jj_getR (pc := 8) hX (x := some 16) fl_X25_44_25 dX25_fails_8 rfl rfl rfl ?_
  refine jj_iload_n (pc := 11) hX dX25_fails_11 rfl ?_
  refine jj_iload_n (pc := 12) hX dX25_fails_12 rfl ?_
  refine jj_iast (pc := 13) hX t dX25_fails_13 rfl rfl ⟨by omega, by omega⟩ ?_
  exact jj_vret (pc := 14) hX dX25_fails_14 hr ⟨Nat.le_refl _, Nat.le_refl _⟩ (⟨rfl, rfl, rfl, rfl, rfl⟩)

theorem w_ends (G : jj_G) (σ : jm) (t : Nat) (v : Int64) (h : Int32) (ht : t < 85) (hh : j01 h) : jm_M G yX25_ends cX25_ends 5 none 0 0 [jI (nI t), jL v, jI h] σ (m_ends t v h σ) none := by
  refine jj_intro "BranchCellsModel" (by decide) rfl (Nat.le_of_ble_eq_true rfl) ?_
  intro X hG hX hr hN hC hF
  subst hG
  refine jj_aload_n (pc := 0) hX dX25_ends_0 rfl ?_
  refine jj_getR (pc := 1) hX (x := some 15) fl_X25_41_25 dX25_ends_1 rfl rfl rfl ?_
  refine jj_iload_n (pc := 4) hX dX25_ends_4 rfl ?_
  refine jj_iconst (pc := 5) hX (v := 2) dX25_ends_5 (by decide) ?_
  refine jj_iast (pc := 6) hX t dX25_ends_6 rfl rfl ⟨by omega, by omega⟩ ?_
  refine jj_aload_n (pc := 7) hX dX25_ends_7 rfl ?_
  refine jj_getR (pc := 8) hX (x := some 25) fl_X25_71_25 dX25_ends_8 rfl rfl rfl ?_
  refine jj_iload_n (pc := 11) hX dX25_ends_11 rfl ?_
  refine jj_iconst (pc := 12) hX (v := 1) dX25_ends_12 (by decide) ?_
  refine jj_zast (pc := 13) hX t dX25_ends_13 rfl rfl ⟨by omega, by omega⟩ (by decide) ?_
  refine jj_aload_n (pc := 14) hX dX25_ends_14 rfl ?_
  refine jj_getR (pc := 15) hX (x := some 26) fl_X25_75_25 dX25_ends_15 rfl rfl rfl ?_
  refine jj_iload_n (pc := 18) hX dX25_ends_18 rfl ?_
  refine jj_lload_n (pc := 19) hX dX25_ends_19 rfl ?_
  refine jj_last (pc := 20) hX t dX25_ends_20 rfl rfl ⟨by omega, by omega⟩ ?_
  refine jj_aload_n (pc := 21) hX dX25_ends_21 rfl ?_
  refine jj_getR (pc := 22) hX (x := some 27) fl_X25_78_25 dX25_ends_22 rfl rfl rfl ?_
  refine jj_iload_n (pc := 25) hX dX25_ends_25 rfl ?_
  refine jj_iload (pc := 26) hX dX25_ends_26 rfl ?_
  refine jj_zast (pc := 28) hX t dX25_ends_28 rfl rfl ⟨by omega, by omega⟩ hh ?_
  exact jj_vret (pc := 29) hX dX25_ends_29 hr ⟨Nat.le_refl _, Nat.le_refl _⟩ (⟨rfl, rfl, rfl, rfl, rfl⟩)

theorem w_push (G : jj_G) (σ : jm) (t : Nat) (v : Int64) (h : Int32) (ht : t < 85) (hp : jb (σ.1 32 t) 11) (hh : j01 h) : jm_M G yX25_push cX25_push 5 none 0 0 [jI (nI t), jL v, jI h] σ (m_push t v h σ) none := by
  refine jj_intro "BranchCellsModel" (by decide) rfl (Nat.le_of_ble_eq_true rfl) ?_
  intro X hG hX hr hN hC hF
  subst hG
  have hp2 := hp.2
  refine jj_aload_n (pc := 0) hX dX25_push_0 rfl ?_
  refine jj_getR (pc := 1) hX (x := some 30) fl_X25_87_25 dX25_push_1 rfl rfl rfl ?_
  refine jj_bipush (pc := 4) hX (v := 12) dX25_push_4 (by decide) ?_
  refine jj_iload_n (pc := 6) hX dX25_push_6 rfl ?_
  refine jj_imul (pc := 7) hX dX25_push_7 ?_
  refine jj_aload_n (pc := 8) hX dX25_push_8 rfl ?_
  refine jj_getR (pc := 9) hX (x := some 32) fl_X25_93_25 dX25_push_9 rfl rfl rfl ?_
  refine jj_iload_n (pc := 12) hX dX25_push_12 rfl ?_
  refine jj_iald (pc := 13) hX t dX25_push_13 rfl rfl rfl ⟨by omega, by omega⟩ ?_
  refine jj_iadd (pc := 14) hX dX25_push_14 ?_
  refine jj_lload_n (pc := 15) hX dX25_push_15 rfl ?_
  refine jj_last (pc := 16) hX ((12 * t) + nv (σ.1 32 t)) dX25_push_16 rfl (ix_add (ix_mul rfl rfl) hp.1) ⟨by omega, by omega⟩ ?_
  refine jj_aload_n (pc := 17) hX dX25_push_17 rfl ?_
  refine jj_getR (pc := 18) hX (x := some 31) fl_X25_90_25 dX25_push_18 rfl rfl rfl ?_
  refine jj_bipush (pc := 21) hX (v := 12) dX25_push_21 (by decide) ?_
  refine jj_iload_n (pc := 23) hX dX25_push_23 rfl ?_
  refine jj_imul (pc := 24) hX dX25_push_24 ?_
  refine jj_aload_n (pc := 25) hX dX25_push_25 rfl ?_
  refine jj_getR (pc := 26) hX (x := some 32) fl_X25_93_25 dX25_push_26 rfl rfl rfl ?_
  refine jj_iload_n (pc := 29) hX dX25_push_29 rfl ?_
  refine jj_iald (pc := 30) hX t dX25_push_30 rfl rfl rfl ⟨by omega, by omega⟩ ?_
  refine jj_iadd (pc := 31) hX dX25_push_31 ?_
  refine jj_iload (pc := 32) hX dX25_push_32 rfl ?_
  refine jj_zast (pc := 34) hX ((12 * t) + nv (σ.1 32 t)) dX25_push_34 rfl (ix_add (ix_mul rfl rfl) hp.1) ⟨by omega, by omega⟩ hh ?_
  refine jj_aload_n (pc := 35) hX dX25_push_35 rfl ?_
  refine jj_getR (pc := 36) hX (x := some 32) fl_X25_93_25 dX25_push_36 rfl rfl rfl ?_
  refine jj_iload_n (pc := 39) hX dX25_push_39 rfl ?_
  refine jj_dup2 (pc := 40) hX dX25_push_40 rfl rfl ?_
  refine jj_iald (pc := 41) hX t dX25_push_41 rfl rfl rfl ⟨by omega, by omega⟩ ?_
  refine jj_iconst (pc := 42) hX (v := 1) dX25_push_42 (by decide) ?_
  refine jj_iadd (pc := 43) hX dX25_push_43 ?_
  refine jj_iast (pc := 44) hX t dX25_push_44 rfl rfl ⟨by omega, by omega⟩ ?_
  exact jj_vret (pc := 45) hX dX25_push_45 hr ⟨Nat.le_refl _, Nat.le_refl _⟩ (⟨rfl, rfl, rfl, rfl, rfl⟩)

theorem w_endsBehind (G : jj_G) (σ : jm) (t : Nat) (ht : t < 85) (hb : jb (σ.1 13 t) 7) : jm_M G yX25_endsBehind cX25_endsBehind 2 none 1 24 [jI (nI t)] σ (m_eb t σ) none := by
  refine jj_intro "BranchCellsModel" (by decide) rfl (Nat.le_of_ble_eq_true rfl) ?_
  intro X hG hX hr hN hC hF
  subst hG
  have hb2 := hb.2
  refine jj_aload_n (pc := 0) hX dX25_endsBehind_0 rfl ?_
  refine jj_getR (pc := 1) hX (x := some 15) fl_X25_41_25 dX25_endsBehind_1 rfl rfl rfl ?_
  refine jj_iload_n (pc := 4) hX dX25_endsBehind_4 rfl ?_
  refine jj_iald (pc := 5) hX t dX25_endsBehind_5 rfl rfl rfl ⟨by omega, by omega⟩ ?_
  refine jj_if_ne (pc := 6) hX 36 dX25_endsBehind_6 rfl (fun h6 => ?_) (fun h6 => ?_)
  · refine jj_vret (pc := 36) hX dX25_endsBehind_36 hr ⟨Nat.le_refl _, Nat.le_refl _⟩ ?_
    unfold m_eb
    rw [if_neg h6]
    exact ⟨rfl, rfl, rfl, rfl, rfl⟩
  · refine jj_aload_n (pc := 9) hX dX25_endsBehind_9 rfl ?_
    refine jj_getR (pc := 10) hX (x := some 14) fl_X25_38_25 dX25_endsBehind_10 rfl rfl rfl ?_
    refine jj_iload_n (pc := 13) hX dX25_endsBehind_13 rfl ?_
    refine jj_iald (pc := 14) hX t dX25_endsBehind_14 rfl rfl rfl ⟨by omega, by omega⟩ ?_
    refine jj_aload_n (pc := 15) hX dX25_endsBehind_15 rfl ?_
    refine jj_getR (pc := 16) hX (x := some 2) fl_X25_7_25 dX25_endsBehind_16 rfl rfl rfl ?_
    refine jj_aload_n (pc := 19) hX dX25_endsBehind_19 rfl ?_
    refine jj_getR (pc := 20) hX (x := some 13) fl_X25_35_25 dX25_endsBehind_20 rfl rfl rfl ?_
    refine jj_iload_n (pc := 23) hX dX25_endsBehind_23 rfl ?_
    refine jj_iald (pc := 24) hX t dX25_endsBehind_24 rfl rfl rfl ⟨by omega, by omega⟩ ?_
    refine jj_iald (pc := 25) hX (nv (σ.1 13 t)) dX25_endsBehind_25 rfl rfl hb.1 ⟨by omega, by omega⟩ ?_
    refine jj_icmp_lt (pc := 26) hX 36 dX25_endsBehind_26 rfl (fun h26 => ?_) (fun h26 => ?_)
    · refine jj_vret (pc := 36) hX dX25_endsBehind_36 hr ⟨Nat.le_refl _, Nat.le_refl _⟩ ?_
      unfold m_eb
      rw [if_pos h6, if_pos h26]
      exact ⟨rfl, rfl, rfl, rfl, rfl⟩
    · refine jj_aload_n (pc := 29) hX dX25_endsBehind_29 rfl ?_
      refine jj_iload_n (pc := 30) hX dX25_endsBehind_30 rfl ?_
      refine jj_lconst (pc := 31) hX (v := 0) dX25_endsBehind_31 (by decide) ?_
      refine jj_iconst (pc := 32) hX (v := 0) dX25_endsBehind_32 (by decide) ?_
      refine jj_callV (pc := 33) hX (w_ends X.1 σ t 0 0 ht (Or.inl rfl)) dX25_endsBehind_33 (lw_V q1647 q1649 qs29 q78 q1650) rfl ⟨by decide +kernel, by decide +kernel, by show _ = some (3 : Nat); decide +kernel⟩ ⟨Nat.le_of_ble_eq_true rfl, Nat.le_of_ble_eq_true rfl, Nat.le_of_ble_eq_true rfl, Nat.le_of_ble_eq_true rfl, Nat.le_of_ble_eq_true rfl⟩ (fun q => by cases q) rfl jc_25 rfl (jj_keq ?_) jj_kno
      refine jj_vret (pc := 36) hX dX25_endsBehind_36 hr ⟨Nat.le_refl _, Nat.le_refl _⟩ ?_
      unfold m_eb
      rw [if_pos h6, if_neg h26]
      exact ⟨rfl, rfl, rfl, rfl, rfl⟩

theorem w_tellOut (G : jj_G) (σ : jm) (t : Nat) (v : Int64) (ht : t < 85) (ho : jb (σ.1 34 t) 60) : jm_M G yX25_tellOut cX25_tellOut 4 none 0 0 [jI (nI t), jL v] σ (m_tell t v σ) none := by
  refine jj_intro "BranchCellsModel" (by decide) rfl (Nat.le_of_ble_eq_true rfl) ?_
  intro X hG hX hr hN hC hF
  subst hG
  refine jj_aload_n (pc := 0) hX dX25_tellOut_0 rfl ?_
  refine jj_getR (pc := 1) hX (x := some 34) fl_X25_99_25 dX25_tellOut_1 rfl rfl rfl ?_
  refine jj_iload_n (pc := 4) hX dX25_tellOut_4 rfl ?_
  refine jj_iald (pc := 5) hX t dX25_tellOut_5 rfl rfl rfl ⟨by omega, by omega⟩ ?_
  refine jj_bipush (pc := 6) hX (v := 60) dX25_tellOut_6 (by decide) ?_
  refine jj_icmp_ge (pc := 8) hX 38 dX25_tellOut_8 rfl (fun h8 => ?_) (fun h8 => ?_)
  · refine jj_vret (pc := 38) hX dX25_tellOut_38 hr ⟨Nat.le_refl _, Nat.le_refl _⟩ ?_
    unfold m_tell
    rw [if_pos h8]
    exact ⟨rfl, rfl, rfl, rfl, rfl⟩
  · have ho2 := jb_lt ho (m := 60) rfl (by decide) (by decide) h8
    refine jj_aload_n (pc := 11) hX dX25_tellOut_11 rfl ?_
    refine jj_getR (pc := 12) hX (x := some 33) fl_X25_96_25 dX25_tellOut_12 rfl rfl rfl ?_
    refine jj_bipush (pc := 15) hX (v := 60) dX25_tellOut_15 (by decide) ?_
    refine jj_iload_n (pc := 17) hX dX25_tellOut_17 rfl ?_
    refine jj_imul (pc := 18) hX dX25_tellOut_18 ?_
    refine jj_aload_n (pc := 19) hX dX25_tellOut_19 rfl ?_
    refine jj_getR (pc := 20) hX (x := some 34) fl_X25_99_25 dX25_tellOut_20 rfl rfl rfl ?_
    refine jj_iload_n (pc := 23) hX dX25_tellOut_23 rfl ?_
    refine jj_iald (pc := 24) hX t dX25_tellOut_24 rfl rfl rfl ⟨by omega, by omega⟩ ?_
    refine jj_iadd (pc := 25) hX dX25_tellOut_25 ?_
    refine jj_lload_n (pc := 26) hX dX25_tellOut_26 rfl ?_
    refine jj_last (pc := 27) hX ((60 * t) + nv (σ.1 34 t)) dX25_tellOut_27 rfl (ix_add (ix_mul rfl rfl) ho.1) ⟨by omega, by omega⟩ ?_
    refine jj_aload_n (pc := 28) hX dX25_tellOut_28 rfl ?_
    refine jj_getR (pc := 29) hX (x := some 34) fl_X25_99_25 dX25_tellOut_29 rfl rfl rfl ?_
    refine jj_iload_n (pc := 32) hX dX25_tellOut_32 rfl ?_
    refine jj_dup2 (pc := 33) hX dX25_tellOut_33 rfl rfl ?_
    refine jj_iald (pc := 34) hX t dX25_tellOut_34 rfl rfl rfl ⟨by omega, by omega⟩ ?_
    refine jj_iconst (pc := 35) hX (v := 1) dX25_tellOut_35 (by decide) ?_
    refine jj_iadd (pc := 36) hX dX25_tellOut_36 ?_
    refine jj_iast (pc := 37) hX t dX25_tellOut_37 rfl rfl ⟨by omega, by omega⟩ ?_
    refine jj_vret (pc := 38) hX dX25_tellOut_38 hr ⟨Nat.le_refl _, Nat.le_refl _⟩ ?_
    unfold m_tell
    rw [if_neg h8]
    exact ⟨rfl, rfl, rfl, rfl, rfl⟩

theorem w_write (G : jj_G) (σ : jm) (t c : Nat) (v : Int64) (ht : t < 85) (hc : c < 16) (hp : jb (σ.1 22 t) 168) : jm_M G yX25_write cX25_write 5 none 0 0 [jI (nI t), jI (nI c), jL v] σ (m_write t c v σ) none := by
  refine jj_intro "BranchCellsModel" (by decide) rfl (Nat.le_of_ble_eq_true rfl) ?_
  intro X hG hX hr hN hC hF
  subst hG
  have hp2 := hp.2
  refine jj_aload_n (pc := 0) hX dX25_write_0 rfl ?_
  refine jj_getR (pc := 1) hX (x := some 39) fl_X25_105_25 dX25_write_1 rfl rfl rfl ?_
  refine jj_bipush (pc := 4) hX (v := 16) dX25_write_4 (by decide) ?_
  refine jj_aload_n (pc := 6) hX dX25_write_6 rfl ?_
  refine jj_getR (pc := 7) hX (x := some 22) fl_X25_62_25 dX25_write_7 rfl rfl rfl ?_
  refine jj_iload_n (pc := 10) hX dX25_write_10 rfl ?_
  refine jj_iald (pc := 11) hX t dX25_write_11 rfl rfl rfl ⟨by omega, by omega⟩ ?_
  refine jj_imul (pc := 12) hX dX25_write_12 ?_
  refine jj_iload_n (pc := 13) hX dX25_write_13 rfl ?_
  refine jj_iadd (pc := 14) hX dX25_write_14 ?_
  refine jj_iconst (pc := 15) hX (v := 1) dX25_write_15 (by decide) ?_
  refine jj_zast (pc := 16) hX ((16 * nv (σ.1 22 t)) + c) dX25_write_16 rfl (ix_add (ix_mul rfl hp.1) rfl) ⟨by omega, by omega⟩ (by decide) ?_
  refine jj_aload_n (pc := 17) hX dX25_write_17 rfl ?_
  refine jj_getR (pc := 18) hX (x := some 40) fl_X25_108_25 dX25_write_18 rfl rfl rfl ?_
  refine jj_bipush (pc := 21) hX (v := 16) dX25_write_21 (by decide) ?_
  refine jj_aload_n (pc := 23) hX dX25_write_23 rfl ?_
  refine jj_getR (pc := 24) hX (x := some 22) fl_X25_62_25 dX25_write_24 rfl rfl rfl ?_
  refine jj_iload_n (pc := 27) hX dX25_write_27 rfl ?_
  refine jj_iald (pc := 28) hX t dX25_write_28 rfl rfl rfl ⟨by omega, by omega⟩ ?_
  refine jj_imul (pc := 29) hX dX25_write_29 ?_
  refine jj_iload_n (pc := 30) hX dX25_write_30 rfl ?_
  refine jj_iadd (pc := 31) hX dX25_write_31 ?_
  refine jj_lload_n (pc := 32) hX dX25_write_32 rfl ?_
  refine jj_last (pc := 33) hX ((16 * nv (σ.1 22 t)) + c) dX25_write_33 rfl (ix_add (ix_mul rfl hp.1) rfl) ⟨by omega, by omega⟩ ?_
  exact jj_vret (pc := 34) hX dX25_write_34 hr ⟨Nat.le_refl _, Nat.le_refl _⟩ (⟨rfl, rfl, rfl, rfl, rfl⟩)

theorem w_right_l {X : jj_X} (hX : jj_ok X cX25_right "BranchCellsModel" 4 0 0 0 0) (hr : jj_Ret X (some .boolean)) (σ : jm) (o : Nat) (ho : o < 4) (hm : jb (σ.1 6 o) 12) : ∀ (n k d : Nat), k + n = nv (σ.1 6 o) → d ≤ k → jj_J X (jj_End X (jj_eq (some (jI (if m_rt (fun k => σ.1 7 (12 * o + k)) n k d = true then 1 else 0))) jm_T σ.1 σ.2 jm_R) jj_no 0 0) 0 0 4 [(0, jR (some 0)), (1, jI (nI o)), (2, jI (nI d)), (3, jI (nI k))] [] jm_T σ.1 σ.2 jm_R := by
  have hm2 := hm.2
  intro n
  induction n with
  | zero =>
    intro k d hk hd
    have hge : σ.1 6 o ≤ nI k := by rw [hm.1]; exact nI_le (by omega) (by omega)
    unfold m_rt
    refine jj_iload_n (pc := 4) hX dX25_right_4 rfl ?_
    refine jj_aload_n (pc := 5) hX dX25_right_5 rfl ?_
    refine jj_getR (pc := 6) hX (x := some 6) fl_X25_19_25 dX25_right_6 rfl rfl rfl ?_
    refine jj_iload_n (pc := 9) hX dX25_right_9 rfl ?_
    refine jj_iald (pc := 10) hX o dX25_right_10 rfl rfl rfl ⟨by omega, by omega⟩ ?_
    refine jj_icmp_ge (pc := 11) hX 51 dX25_right_11 rfl (fun _ => ?_) (fun q => absurd hge q)
    refine jj_iload_n (pc := 51) hX dX25_right_51 rfl ?_
    refine jj_iconst (pc := 52) hX (v := 1) dX25_right_52 (by decide) ?_
    refine jj_icmp_ne (pc := 53) hX 60 dX25_right_53 rfl (fun h53 => ?_) (fun h53 => ?_)
    · refine jj_iconst (pc := 60) hX (v := 0) dX25_right_60 (by decide) ?_
      refine jj_zret (pc := 61) hX dX25_right_61 hr ⟨Nat.le_refl _, Nat.le_refl _⟩ (by decide) ?_
      rw [if_neg (by rw [decide_eq_true_eq]; exact fun q => h53 (by rw [q]; rfl))]
      exact ⟨rfl, rfl, rfl, rfl, rfl⟩
    · refine jj_iconst (pc := 56) hX (v := 1) dX25_right_56 (by decide) ?_
      refine jj_goto (pc := 57) hX 61 dX25_right_57 rfl ?_
      refine jj_zret (pc := 61) hX dX25_right_61 hr ⟨Nat.le_refl _, Nat.le_refl _⟩ (by decide) ?_
      rw [if_pos (by rw [decide_eq_true_eq]; exact (nI_eq (b := 1) (by omega) (by decide)).mp (show nI d = nI 1 from h53))]
      exact ⟨rfl, rfl, rfl, rfl, rfl⟩
  | succ n ih =>
    intro k d hk hd
    have hlt : ¬ σ.1 6 o ≤ nI k := by rw [hm.1]; exact nI_ge (by omega) (by omega)
    unfold m_rt
    refine jj_iload_n (pc := 4) hX dX25_right_4 rfl ?_
    refine jj_aload_n (pc := 5) hX dX25_right_5 rfl ?_
    refine jj_getR (pc := 6) hX (x := some 6) fl_X25_19_25 dX25_right_6 rfl rfl rfl ?_
    refine jj_iload_n (pc := 9) hX dX25_right_9 rfl ?_
    refine jj_iald (pc := 10) hX o dX25_right_10 rfl rfl rfl ⟨by omega, by omega⟩ ?_
    refine jj_icmp_ge (pc := 11) hX 51 dX25_right_11 rfl (fun q => absurd q hlt) (fun _ => ?_)
    refine jj_aload_n (pc := 14) hX dX25_right_14 rfl ?_
    refine jj_getR (pc := 15) hX (x := some 7) fl_X25_22_25 dX25_right_15 rfl rfl rfl ?_
    refine jj_bipush (pc := 18) hX (v := 12) dX25_right_18 (by decide) ?_
    refine jj_iload_n (pc := 20) hX dX25_right_20 rfl ?_
    refine jj_imul (pc := 21) hX dX25_right_21 ?_
    refine jj_iload_n (pc := 22) hX dX25_right_22 rfl ?_
    refine jj_iadd (pc := 23) hX dX25_right_23 ?_
    refine jj_iald (pc := 24) hX ((12 * o) + k) dX25_right_24 rfl rfl (ix_add (ix_mul rfl rfl) rfl) ⟨by omega, by omega⟩ ?_
    refine jj_iconst (pc := 25) hX (v := 4) dX25_right_25 (by decide) ?_
    refine jj_icmp_ge (pc := 26) hX 35 dX25_right_26 rfl (fun h26 => ?_) (fun h26 => ?_)
    · refine jj_iload_n (pc := 35) hX dX25_right_35 rfl ?_
      refine jj_iconst (pc := 36) hX (v := 2) dX25_right_36 (by decide) ?_
      refine jj_icmp_ge (pc := 37) hX 42 dX25_right_37 rfl (fun h37 => ?_) (fun h37 => ?_)
      · have hd1 : 2 ≤ d := by rw [show (2 : Int32) = nI 2 from rfl, nI_leI (by decide) (by omega)] at h37; exact h37
        refine jj_iinc (pc := 42) hX (v := nI (d - 1)) dX25_right_42 rfl (nI_dec d (by omega)) (by decide) ?_
        refine jj_iinc (pc := 45) hX (v := nI (k + 1)) dX25_right_45 rfl (ix_inc rfl) (by decide) ?_
        refine jj_goto (pc := 48) hX 4 dX25_right_48 rfl ?_
        rw [if_pos h26, if_pos (show 2 ≤ d by rw [show (2 : Int32) = nI 2 from rfl, nI_leI (by decide) (by omega)] at h37; exact h37)]
        refine jj_ls [(0, jR (some 0)), (1, jI (nI o)), (2, jI (nI (d - 1))), (3, jI (nI (k + 1)))] ⟨rfl, rfl, rfl, rfl, trivial⟩ ?_
        exact ih (k + 1) (d - 1) (by omega) (by omega)
      · refine jj_iconst (pc := 40) hX (v := 0) dX25_right_40 (by decide) ?_
        refine jj_zret (pc := 41) hX dX25_right_41 hr ⟨Nat.le_refl _, Nat.le_refl _⟩ (by decide) ?_
        rw [if_pos h26, if_neg (show ¬ 2 ≤ d from fun q => h37 (by rw [show (2 : Int32) = nI 2 from rfl, nI_leI (by decide) (by omega)]; exact q))]
        exact ⟨rfl, rfl, rfl, rfl, rfl⟩
    · refine jj_iinc (pc := 29) hX (v := nI (d + 1)) dX25_right_29 rfl (ix_inc rfl) (by decide) ?_
      refine jj_goto (pc := 32) hX 45 dX25_right_32 rfl ?_
      refine jj_iinc (pc := 45) hX (v := nI (k + 1)) dX25_right_45 rfl (ix_inc rfl) (by decide) ?_
      refine jj_goto (pc := 48) hX 4 dX25_right_48 rfl ?_
      rw [if_neg h26]
      refine jj_ls [(0, jR (some 0)), (1, jI (nI o)), (2, jI (nI (d + 1))), (3, jI (nI (k + 1)))] ⟨rfl, rfl, rfl, rfl, trivial⟩ ?_
      exact ih (k + 1) (d + 1) (by omega) (by omega)

theorem w_right (G : jj_G) (σ : jm) (o : Nat) (ho : o < 4) (hm : jb (σ.1 6 o) 12) : jm_M G yX25_right cX25_right 4 (some .boolean) 0 0 [jI (nI o)] σ σ (some (jI (if m_right o σ = true then 1 else 0))) := by
  refine jj_intro "BranchCellsModel" (by decide) rfl (Nat.le_of_ble_eq_true rfl) ?_
  intro X hG hX hr hN hC hF
  subst hG
  refine jj_iconst (pc := 0) hX (v := 0) dX25_right_0 (by decide) ?_
  refine jj_istore_n (pc := 1) hX dX25_right_1 (by decide) ?_
  refine jj_iconst (pc := 2) hX (v := 0) dX25_right_2 (by decide) ?_
  refine jj_istore_n (pc := 3) hX dX25_right_3 (by decide) ?_
  refine jj_ls [(0, jR (some 0)), (1, jI (nI o)), (2, jI (nI 0)), (3, jI (nI 0))] ⟨rfl, rfl, rfl, rfl, trivial⟩ ?_
  exact w_right_l hX hr σ o ho hm (nv (σ.1 6 o)) 0 0 (Nat.zero_add _) (Nat.le_refl _)
