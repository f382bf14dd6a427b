set_option maxRecDepth 100000
theorem v_in (G : jj_G) (τ : jj_T) (I : jj_I) (L : jj_L) (r : jj_R) (x a b : Int64) : kk_M G yX0_in (ws_ yX0_in cX0_in 6 (some .boolean)) { frames := 0, cells := 0, slots := 0, locals := 0 } [jL x, jL a, jL b] false τ I L r (jj_eq (some (jI (if a ≤ x ∧ x ≤ b then 1 else 0))) τ I L r) jj_no := by
  refine kk_intro "BranchCells" (by decide) rfl (Nat.le_of_ble_eq_true rfl) ?_
  intro X hG hX hr hN hC hF hAd
  refine kk_lload_n (pc := 0) hX dX0_in_0 rfl ?_
  refine kk_lload_n (pc := 1) hX dX0_in_1 rfl ?_
  refine kk_lcmp (pc := 2) hX dX0_in_2 ?_
  refine kk_if_lt (pc := 3) hX 17 dX0_in_3 rfl (fun h3 => ?_) (fun h3 => ?_)
  · have h3 := (lg_cmp_lt x a).mp h3
    refine kk_iconst (pc := 17) hX (v := 0) dX0_in_17 (by decide) ?_
    refine kk_zret (pc := 18) hX dX0_in_18 hr ⟨Nat.le_refl _, Nat.le_refl _⟩ (by decide) ?_
    rw [if_neg (fun z => absurd z.1 (Int64.not_le.mpr h3))]
    exact ⟨rfl, rfl, rfl, rfl, rfl⟩
  · have h3 := (not_congr (lg_cmp_lt x a)).mp h3
    refine kk_lload_n (pc := 6) hX dX0_in_6 rfl ?_
    refine kk_lload (pc := 7) hX dX0_in_7 rfl ?_
    refine kk_lcmp (pc := 9) hX dX0_in_9 ?_
    refine kk_if_gt (pc := 10) hX 17 dX0_in_10 rfl (fun h10 => ?_) (fun h10 => ?_)
    · have h10 := (lg_cmp_gt x b).mp h10
      refine kk_iconst (pc := 17) hX (v := 0) dX0_in_17 (by decide) ?_
      refine kk_zret (pc := 18) hX dX0_in_18 hr ⟨Nat.le_refl _, Nat.le_refl _⟩ (by decide) ?_
      rw [if_neg (fun z => absurd z.2 (Int64.not_le.mpr h10))]
      exact ⟨rfl, rfl, rfl, rfl, rfl⟩
    · have h10 := (not_congr (lg_cmp_gt x b)).mp h10
      refine kk_iconst (pc := 13) hX (v := 1) dX0_in_13 (by decide) ?_
      refine kk_goto (pc := 14) hX 18 dX0_in_14 rfl ?_
      refine kk_zret (pc := 18) hX dX0_in_18 hr ⟨Nat.le_refl _, Nat.le_refl _⟩ (by decide) ?_
      rw [if_pos ⟨Int64.not_lt.mp h3, Int64.not_lt.mp h10⟩]
      exact ⟨rfl, rfl, rfl, rfl, rfl⟩

theorem v_cell (G : jj_G) (τ : jj_T) (I : jj_I) (L : jj_L) (r : jj_R) (x : Int64) (hx : 0 ≤ x ∧ x ≤ 15) : kk_M G yX0_cell (ws_ yX0_cell cX0_cell 2 (some .int)) { frames := 4, cells := 0, slots := 0, locals := 89 } [jL x] false τ I L r (jj_eq (some (jI (x).toInt32)) τ I L r) jj_no := by
  refine kk_intro "BranchCells" (by decide) rfl (Nat.le_of_ble_eq_true rfl) ?_
  intro X hG hX hr hN hC hF hAd
  refine kk_lload_n (pc := 0) hX dX0_cell_0 rfl ?_
  refine kk_lconst (pc := 1) hX (v := 0) dX0_cell_1 (by decide) ?_
  refine kk_ldc2 (pc := 2) hX (v := 15) q598 dX0_cell_2 ?_
  refine kk_callS (pc := 5) hX (v_in X.1 _ _ _ _ x 0 15) dX0_cell_5 (lw_S q592 q593 q50 q594) ⟨by decide +kernel, by decide +kernel, by show _ = some (3 : Nat); decide +kernel⟩ ⟨Nat.le_of_ble_eq_true rfl, Nat.le_of_ble_eq_true rfl, Nat.le_of_ble_eq_true rfl, Nat.le_of_ble_eq_true rfl, Nat.le_of_ble_eq_true rfl⟩ (fun q => by cases q) rfl (jj_keq ?_) jj_kno
  refine kk_top 1 (if_pos hx) ?_
  refine kk_if_ne (pc := 8) hX 21 dX0_cell_8 rfl (fun _ => ?_) (fun q => absurd q (by decide))
  refine kk_lload_n (pc := 21) hX dX0_cell_21 rfl ?_
  refine kk_l2i (pc := 22) hX dX0_cell_22 ?_
  exact kk_iret (pc := 23) hX dX0_cell_23 hr ⟨Nat.le_refl _, Nat.le_refl _⟩ (⟨rfl, rfl, rfl, rfl, rfl⟩)

theorem v_cellX (G : jj_G) (τ : jj_T) (I : jj_I) (L : jj_L) (r : jj_R) (x : Int64) (hx : ¬ (0 ≤ x ∧ x ≤ 15)) (q : Nat) (hq : τ q = none ∧ ¬ (1 ≤ q ∧ q ≤ 6)) : kk_M G yX0_cell (ws_ yX0_cell cX0_cell 2 (some .int)) { frames := 4, cells := 1, slots := 7, locals := 89 } [jL x] true τ I L r jj_noP (jj_th q (jj_t τ q (.inl 32)) (jj_u (jj_z I q 0) q 6 9) (jj_z L q 0) (jj_u (jj_u (jj_u (jj_u (jj_u (jj_u (jj_u (jj_z r q none) q 0 (some q)) q 1 (some 5)) q 2 (some 6)) q 1 none) q 3 none) q 0 none) q 2 none)) := by
  refine kk_intro "BranchCells" (by decide) rfl (Nat.le_of_ble_eq_true rfl) ?_
  intro X hG hX hr hN hC hF hAd
  refine kk_lload_n (pc := 0) hX dX0_cell_0 rfl ?_
  refine kk_lconst (pc := 1) hX (v := 0) dX0_cell_1 (by decide) ?_
  refine kk_ldc2 (pc := 2) hX (v := 15) q598 dX0_cell_2 ?_
  refine kk_callS (pc := 5) hX (v_in X.1 _ _ _ _ x 0 15) dX0_cell_5 (lw_S q592 q593 q50 q594) ⟨by decide +kernel, by decide +kernel, by show _ = some (3 : Nat); decide +kernel⟩ ⟨Nat.le_of_ble_eq_true rfl, Nat.le_of_ble_eq_true rfl, Nat.le_of_ble_eq_true rfl, Nat.le_of_ble_eq_true rfl, Nat.le_of_ble_eq_true rfl⟩ (fun q => by cases q) rfl (jj_keq ?_) jj_kno
  refine kk_top 0 (if_neg hx) ?_
  refine kk_if_ne (pc := 8) hX 21 dX0_cell_8 rfl (fun q => absurd (by decide) q) (fun _ => ?_)
  refine kk_new (pc := 11) hX q ⟨hq.1, hq.2⟩ (hF rfl) dX0_cell_11 jc_32 q961 q963 q95 (by decide) ⟨Nat.le_of_ble_eq_true rfl, Nat.le_of_ble_eq_true rfl⟩ ?_
  refine kk_dup (pc := 14) hX dX0_cell_14 rfl ?_
  refine kk_bipush (pc := 15) hX (v := 9) dX0_cell_15 (by decide) ?_
  refine kk_callI (pc := 17) hX (v_Fi X.1 _ _ _ _ q jj_ts 9) dX0_cell_17 (lw_meth q1001) ⟨q999, q1000, q95, rfl⟩ ⟨by decide +kernel, by decide +kernel, by show _ = some (1 : Nat); decide +kernel⟩ ⟨Nat.le_of_ble_eq_true rfl, Nat.le_of_ble_eq_true rfl, Nat.le_of_ble_eq_true rfl, Nat.le_of_ble_eq_true rfl, Nat.le_of_ble_eq_true rfl⟩ (fun q => by cases q) rfl (jj_keq ?_) jj_kno
  refine kk_athrow (pc := 20) hX dX0_cell_20 jj_ts ?_
  exact kk_out (pc := 20) hX hN ⟨Nat.le_refl _, Nat.le_refl _⟩ (⟨rfl, rfl, rfl, rfl, rfl⟩)

theorem ce_nv {x : Int64} (h : 0 ≤ x ∧ x ≤ 15) : x.toInt32 = nI (nv x.toInt32) ∧ nv x.toInt32 < 16 := by
  obtain ⟨h1, h2⟩ := h
  rw [Int64.le_iff_toInt_le] at h1 h2
  have a : (0 : Int64).toInt = 0 := rfl
  have b : (15 : Int64).toInt = 15 := rfl
  rw [a] at h1
  rw [b] at h2
  have e : x.toInt32.toInt = x.toInt := by
    rw [Int64.toInt_toInt32]
    apply Int.bmod_eq_of_le <;> omega
  exact in_nv (by omega) (by omega)
theorem v_do3 (G : jj_G) (τ : jj_T) (I : jj_I) (L : jj_L) (r : jj_R) {β : Nat} {ss : List Nat} {e N : Nat → Nat} {ρ : jm} {σ : jm} {t : Nat} (h : cr_rel β ss e N ρ (cr_pl (σ.1 14) t (σ.1 14 t + 1)) σ τ I L r) (hv : m_inv σ) (ht : t < nv (σ.1 0 11)) (h0 : σ.1 15 t = 0) (a : Int32) (h1 : 1 ≤ nv (σ.1 32 t)) (hf : σ.1 31 (12 * t + (nv (σ.1 32 t) - 1)) = 0) (hx : 0 ≤ (σ.2 30 (12 * t + (nv (σ.1 32 t) - 1))) ∧ (σ.2 30 (12 * t + (nv (σ.1 32 t) - 1))) ≤ 15) : kk_M G yX5_does (ws_ yX5_does cX5_does 3 none) { frames := 6, cells := 0, slots := 0, locals := 134 } [jR (some 23), jR (some (β + 5000 + 20 * t)), jI a] false τ I L r (fun v' τ' I' L' r' => v' = none ∧ τ' = τ ∧ cr_rel β ss e N ρ (cr_pl (σ.1 14) t (σ.1 14 t + 1)) (m_push t (m_rd (nv ((σ.2 30 (12 * t + (nv (σ.1 32 t) - 1)))).toInt32) (m_s2 t 1 σ) 170 (σ.1 22 t)) 0 (m_s2 t 1 σ)) τ I' L' r') jj_no := by
  refine kk_intro "BranchCells$4" (by decide) rfl (Nat.le_of_ble_eq_true rfl) ?_
  intro X hG hX hr hN hC hF hAd
  have hk := h.tk t ht
  have hT := hv.T
  have hp9 := (hv.tk t ht).po.1
  have hq := hp9.1
  have hp12 := hp9.2
  have hs9 := (hv.tk t ht).pr.2
  have hn4 : ¬ σ.1 22 t = -4 := by rw [(hv.tk t ht).pr.1]; exact nI_n4 (by have := hv.S; omega)
  have hs := h.sg _ hs9
  refine kk_aload_n (pc := 0) hX dX5_does_0 rfl ?_
  refine kk_aload_n (pc := 1) hX dX5_does_1 rfl ?_
  refine kk_getR (pc := 2) hX (x := (cr_sr β (σ.1 22 t))) fl_X5_13_29 dX5_does_2 hk.k.k0 rfl hk.v.pr ?_
  refine kk_aload_n (pc := 5) hX dX5_does_5 rfl ?_
  refine kk_callV (pc := 6) hX (v_cnum X.1 _ _ _ _ h ht hq h1 hf) dX5_does_6 (lw_V q1216 q1122 q1123 q88 q1124) rfl ⟨by decide +kernel, by decide +kernel, by show _ = some (0 : Nat); decide +kernel⟩ ⟨Nat.le_of_ble_eq_true rfl, Nat.le_of_ble_eq_true rfl, Nat.le_of_ble_eq_true rfl, Nat.le_of_ble_eq_true rfl, Nat.le_of_ble_eq_true rfl⟩ (fun q => by cases q) hk.k.k0 jc_29 rfl (fun _ _ I2 _ _ hP => ?_) jj_kno
  obtain ⟨rfl, rfl, rfl, rfl,  h2⟩ := hP
  have hk2 := h2.tk t ht
  refine kk_callSN (pc := 9) hX (v_cell X.1 _ _ _ _ (σ.2 30 (12 * t + (nv (σ.1 32 t) - 1))) hx) dX5_does_9 (lw_meth q1219) (jj_inT q1217 rfl) ⟨q1218, q50⟩ ⟨by decide +kernel, by decide +kernel, by show _ = some (1 : Nat); decide +kernel⟩ ⟨Nat.le_of_ble_eq_true rfl, Nat.le_of_ble_eq_true rfl, Nat.le_of_ble_eq_true rfl, Nat.le_of_ble_eq_true rfl, Nat.le_of_ble_eq_true rfl⟩ (fun q => by cases q) rfl (jj_keq ?_) jj_kno
  refine kk_top (nI (nv ((σ.2 30 (12 * t + (nv (σ.1 32 t) - 1)))).toInt32)) (ce_nv hx).1 ?_
  refine kk_callS (pc := 12) hX (v_Sread X.1 _ _ _ _ h2 (show m_und (m_s2 t 1 σ) from hv.und) (σ.1 22 t) (nv ((σ.2 30 (12 * t + (nv (σ.1 32 t) - 1)))).toInt32) (ce_nv hx).2 (hv.rd ht) (Or.inr (h.ss.pr t ht (by rw [h0]; decide)))) dX5_does_12 (lw_S q1220 q1171 q87 q1172) ⟨by decide +kernel, by decide +kernel, by show _ = some (2 : Nat); decide +kernel⟩ ⟨Nat.le_of_ble_eq_true rfl, Nat.le_of_ble_eq_true rfl, Nat.le_of_ble_eq_true rfl, Nat.le_of_ble_eq_true rfl, Nat.le_of_ble_eq_true rfl⟩ (fun q => by cases q) rfl (jj_keq ?_) jj_kno
  refine kk_callV (pc := 15) hX (v_cTput X.1 _ _ _ _ h2 ht (s2_v1 hq h1 hp9.2).2 (m_rd (nv ((σ.2 30 (12 * t + (nv (σ.1 32 t) - 1)))).toInt32) (m_s2 t 1 σ) 170 (σ.1 22 t)) (by rw [(s2_v1 hq h1 hp9.2).1]; omega)) dX5_does_15 (lw_V q1221 q1058 q1059 q88 q1060) rfl ⟨by decide +kernel, by decide +kernel, by show _ = some (1 : Nat); decide +kernel⟩ ⟨Nat.le_of_ble_eq_true rfl, Nat.le_of_ble_eq_true rfl, Nat.le_of_ble_eq_true rfl, Nat.le_of_ble_eq_true rfl, Nat.le_of_ble_eq_true rfl⟩ (fun q => by cases q) hk.k.k0 jc_29 rfl (fun _ _ I3 L3 r3 hP => ?_) jj_kno
  obtain ⟨rfl, rfl,  h3⟩ := hP
  exact kk_vret (pc := 18) hX dX5_does_18 hr ⟨Nat.le_refl _, Nat.le_refl _⟩ (⟨rfl, rfl, h3⟩)

theorem v_do3X (G : jj_G) (τ : jj_T) (I : jj_I) (L : jj_L) (r : jj_R) {β : Nat} {ss : List Nat} {e N : Nat → Nat} {ρ : jm} {σ : jm} {t : Nat} (h : cr_rel β ss e N ρ (cr_pl (σ.1 14) t (σ.1 14 t + 1)) σ τ I L r) (hv : m_inv σ) (ht : t < nv (σ.1 0 11)) (h0 : σ.1 15 t = 0) (a : Int32) (h1 : 1 ≤ nv (σ.1 32 t)) (hf : ¬ σ.1 31 (12 * t + (nv (σ.1 32 t) - 1)) = 0) (q : Nat) (hq7 : τ q = none ∧ ¬ (1 ≤ q ∧ q ≤ 6)) (hq9 : β + 10000 ≤ q) : kk_M G yX5_does (ws_ yX5_does cX5_does 3 none) { frames := 6, cells := 1, slots := 7, locals := 134 } [jR (some 23), jR (some (β + 5000 + 20 * t)), jI a] true τ I L r jj_noP (fun a τ' I' L' r' => a = q ∧ I' q 6 = 2 ∧ cr_rel β ss e N ρ (cr_pl (σ.1 14) t (σ.1 14 t + 1)) (m_s2 t 1 σ) τ' I' L' r') := by
  refine kk_intro "BranchCells$4" (by decide) rfl (Nat.le_of_ble_eq_true rfl) ?_
  intro X hG hX hr hN hC hF hAd
  have hk := h.tk t ht
  have hT := hv.T
  have hp9 := (hv.tk t ht).po.1
  have hq := hp9.1
  have hp12 := hp9.2
  have hs9 := (hv.tk t ht).pr.2
  have hn4 : ¬ σ.1 22 t = -4 := by rw [(hv.tk t ht).pr.1]; exact nI_n4 (by have := hv.S; omega)
  have hs := h.sg _ hs9
  refine kk_aload_n (pc := 0) hX dX5_does_0 rfl ?_
  refine kk_aload_n (pc := 1) hX dX5_does_1 rfl ?_
  refine kk_getR (pc := 2) hX (x := (cr_sr β (σ.1 22 t))) fl_X5_13_29 dX5_does_2 hk.k.k0 rfl hk.v.pr ?_
  refine kk_aload_n (pc := 5) hX dX5_does_5 rfl ?_
  refine kk_callV (pc := 6) hX (v_cnumX X.1 _ _ _ _ h ht hq h1 hf q hq7 hq9) dX5_does_6 (lw_V q1216 q1122 q1123 q88 q1124) rfl ⟨by decide +kernel, by decide +kernel, by show _ = some (0 : Nat); decide +kernel⟩ ⟨Nat.le_of_ble_eq_true rfl, Nat.le_of_ble_eq_true rfl, Nat.le_of_ble_eq_true rfl, Nat.le_of_ble_eq_true rfl, Nat.le_of_ble_eq_true rfl⟩ (fun _ => hF rfl) hk.k.k0 jc_29 rfl jj_knp (fun a9 _ _ _ _ hP => ?_)
  exact kk_out (pc := 6) hX hN ⟨Nat.le_refl _, Nat.le_refl _⟩ hP

theorem v_do3Y (G : jj_G) (τ : jj_T) (I : jj_I) (L : jj_L) (r : jj_R) {β : Nat} {ss : List Nat} {e N : Nat → Nat} {ρ : jm} {σ : jm} {t : Nat} (h : cr_rel β ss e N ρ (cr_pl (σ.1 14) t (σ.1 14 t + 1)) σ τ I L r) (hv : m_inv σ) (ht : t < nv (σ.1 0 11)) (h0 : σ.1 15 t = 0) (a : Int32) (h1 : 1 ≤ nv (σ.1 32 t)) (hf : σ.1 31 (12 * t + (nv (σ.1 32 t) - 1)) = 0) (hx : ¬ (0 ≤ (σ.2 30 (12 * t + (nv (σ.1 32 t) - 1))) ∧ (σ.2 30 (12 * t + (nv (σ.1 32 t) - 1))) ≤ 15)) (q : Nat) (hq7 : τ q = none ∧ ¬ (1 ≤ q ∧ q ≤ 6)) (hq9 : β + 10000 ≤ q) : kk_M G yX5_does (ws_ yX5_does cX5_does 3 none) { frames := 6, cells := 1, slots := 7, locals := 134 } [jR (some 23), jR (some (β + 5000 + 20 * t)), jI a] true τ I L r jj_noP (fun a τ' I' L' r' => a = q ∧ I' q 6 = 9 ∧ cr_rel β ss e N ρ (cr_pl (σ.1 14) t (σ.1 14 t + 1)) (m_s2 t 1 σ) τ' I' L' r') := by
  refine kk_intro "BranchCells$4" (by decide) rfl (Nat.le_of_ble_eq_true rfl) ?_
  intro X hG hX hr hN hC hF hAd
  have hk := h.tk t ht
  have hT := hv.T
  have hp9 := (hv.tk t ht).po.1
  have hq := hp9.1
  have hp12 := hp9.2
  have hs9 := (hv.tk t ht).pr.2
  have hn4 : ¬ σ.1 22 t = -4 := by rw [(hv.tk t ht).pr.1]; exact nI_n4 (by have := hv.S; omega)
  have hs := h.sg _ hs9
  refine kk_aload_n (pc := 0) hX dX5_does_0 rfl ?_
  refine kk_aload_n (pc := 1) hX dX5_does_1 rfl ?_
  refine kk_getR (pc := 2) hX (x := (cr_sr β (σ.1 22 t))) fl_X5_13_29 dX5_does_2 hk.k.k0 rfl hk.v.pr ?_
  refine kk_aload_n (pc := 5) hX dX5_does_5 rfl ?_
  refine kk_callV (pc := 6) hX (v_cnum X.1 _ _ _ _ h ht hq h1 hf) dX5_does_6 (lw_V q1216 q1122 q1123 q88 q1124) rfl ⟨by decide +kernel, by decide +kernel, by show _ = some (0 : Nat); decide +kernel⟩ ⟨Nat.le_of_ble_eq_true rfl, Nat.le_of_ble_eq_true rfl, Nat.le_of_ble_eq_true rfl, Nat.le_of_ble_eq_true rfl, Nat.le_of_ble_eq_true rfl⟩ (fun q => by cases q) hk.k.k0 jc_29 rfl (fun _ _ I2 _ _ hP => ?_) jj_kno
  obtain ⟨rfl, rfl, rfl, rfl,  h2⟩ := hP
  have hk2 := h2.tk t ht
  refine kk_callSN (pc := 9) hX (v_cellX X.1 _ _ _ _ (σ.2 30 (12 * t + (nv (σ.1 32 t) - 1))) hx q hq7) dX5_does_9 (lw_meth q1219) (jj_inT q1217 rfl) ⟨q1218, q50⟩ ⟨by decide +kernel, by decide +kernel, by show _ = some (1 : Nat); decide +kernel⟩ ⟨Nat.le_of_ble_eq_true rfl, Nat.le_of_ble_eq_true rfl, Nat.le_of_ble_eq_true rfl, Nat.le_of_ble_eq_true rfl, Nat.le_of_ble_eq_true rfl⟩ (fun _ => hF rfl) rfl jj_knp (jj_kth ?_)
  exact kk_out (pc := 9) hX hN ⟨Nat.le_refl _, Nat.le_refl _⟩ (⟨rfl, jj_us, (cr_rel.gar h2 hq7.1 hq9 (fun b hb => jj_tn hb) (fun b hb => (jj_ua hb).trans (jj_zn hb)) (fun b hb => jj_zn hb) (fun b hb => (jj_ua hb).trans ((jj_ua hb).trans ((jj_ua hb).trans ((jj_ua hb).trans ((jj_ua hb).trans ((jj_ua hb).trans ((jj_ua hb).trans (jj_zn hb)))))))))⟩)

theorem v_do4 (G : jj_G) (τ : jj_T) (I : jj_I) (L : jj_L) (r : jj_R) {β : Nat} {ss : List Nat} {e N : Nat → Nat} {ρ : jm} {σ : jm} {t : Nat} (h : cr_rel β ss e N ρ (cr_pl (σ.1 14) t (σ.1 14 t + 1)) σ τ I L r) (hv : m_inv σ) (ht : t < nv (σ.1 0 11)) (h0 : σ.1 15 t = 0) (a : Int32) (h2 : 2 ≤ nv (σ.1 32 t)) (hfy : σ.1 31 (12 * t + (nv (σ.1 32 t) - 1)) = 0) (hfx : σ.1 31 (12 * t + (nv (σ.1 32 t) - 1 - 1)) = 0) (hx : 0 ≤ (σ.2 30 (12 * t + (nv (σ.1 32 t) - 1 - 1))) ∧ (σ.2 30 (12 * t + (nv (σ.1 32 t) - 1 - 1))) ≤ 15) : kk_M G yX6_does (ws_ yX6_does cX6_does 7 none) { frames := 5, cells := 0, slots := 0, locals := 110 } [jR (some 24), jR (some (β + 5000 + 20 * t)), jI a] false τ I L r (fun v' τ' I' L' r' => v' = none ∧ τ' = τ ∧ cr_rel β ss e N ρ (cr_pl (σ.1 14) t (σ.1 14 t + 1)) (m_write t (nv ((σ.2 30 (12 * t + (nv (σ.1 32 t) - 1 - 1)))).toInt32) (σ.2 30 (12 * t + (nv (σ.1 32 t) - 1))) (m_s2 t 2 σ)) τ I' L' r') jj_no := by
  refine kk_intro "BranchCells$5" (by decide) rfl (Nat.le_of_ble_eq_true rfl) ?_
  intro X hG hX hr hN hC hF hAd
  have hk := h.tk t ht
  have hT := hv.T
  have hp9 := (hv.tk t ht).po.1
  have hq := hp9.1
  have hp12 := hp9.2
  have hs9 := (hv.tk t ht).pr.2
  have hn4 : ¬ σ.1 22 t = -4 := by rw [(hv.tk t ht).pr.1]; exact nI_n4 (by have := hv.S; omega)
  have hs := h.sg _ hs9
  refine kk_aload_n (pc := 0) hX dX6_does_0 rfl ?_
  refine kk_getR (pc := 1) hX (x := some (β + 5000 + 20 * t + 7)) fl_X6_13_29 dX6_does_1 hk.k.k0 rfl hk.l.pi ?_
  refine kk_callV (pc := 4) hX (v_ctake X.1 _ _ _ _ h ht hq (by omega)) dX6_does_4 (lw_V q1225 q1075 q1076 q92 q1077) rfl ⟨by decide +kernel, by decide +kernel, by show _ = some (0 : Nat); decide +kernel⟩ ⟨Nat.le_of_ble_eq_true rfl, Nat.le_of_ble_eq_true rfl, Nat.le_of_ble_eq_true rfl, Nat.le_of_ble_eq_true rfl, Nat.le_of_ble_eq_true rfl⟩ (fun q => by cases q) hk.k.k7 jc_31 rfl (fun _ _ I3 _ _ hP => ?_) jj_kno
  obtain ⟨rfl, rfl, rfl, rfl,  h3⟩ := hP
  have hk3 := h3.tk t ht
  refine kk_istore_n (pc := 7) hX dX6_does_7 (by decide) ?_
  refine kk_aload_n (pc := 8) hX dX6_does_8 rfl ?_
  refine kk_getR (pc := 9) hX (x := some (β + 5000 + 20 * t + 7)) fl_X6_13_29 dX6_does_9 hk.k.k0 rfl hk3.l.pi ?_
  refine kk_callV (pc := 12) hX (v_ctake X.1 _ _ _ _ h3 ht (s2_v1 hq (by omega) hp9.2).2 (by rw [(s2_v1 hq (by omega) hp9.2).1]; omega)) dX6_does_12 (lw_V q1225 q1075 q1076 q92 q1077) rfl ⟨by decide +kernel, by decide +kernel, by show _ = some (0 : Nat); decide +kernel⟩ ⟨Nat.le_of_ble_eq_true rfl, Nat.le_of_ble_eq_true rfl, Nat.le_of_ble_eq_true rfl, Nat.le_of_ble_eq_true rfl, Nat.le_of_ble_eq_true rfl⟩ (fun q => by cases q) hk.k.k7 jc_31 rfl (fun _ _ I4 _ _ hP => ?_) jj_kno
  obtain ⟨rfl, rfl, rfl, rfl,  h4⟩ := hP
  rw [s2_2 hq h2 hp9.2] at h4
  have hk4 := h4.tk t ht
  refine kk_top (nI (nv (σ.1 32 t) - 1 - 1)) (by rw [(s2_v1 hq (by omega) hp9.2).1]) ?_
  refine kk_istore (pc := 15) hX dX6_does_15 (by decide) ?_
  refine kk_aload_n (pc := 17) hX dX6_does_17 rfl ?_
  refine kk_getR (pc := 18) hX (x := some (β + 5000 + 20 * t + 7)) fl_X6_13_29 dX6_does_18 hk.k.k0 rfl hk4.l.pi ?_
  refine kk_iload_n (pc := 21) hX dX6_does_21 rfl ?_
  refine kk_callU (pc := 22) hX (owner := "BranchCells$Values") (v_Vnum31 X.1 _ _ _ _ (β + 5000 + 20 * t + 7) (β + 5000 + 20 * t + 8) (β + 5000 + 20 * t + 9) 12 hk.k.k7 hk.l.p0 hk.l.p1 hk.k.k8 hk.k.k9 (by decide) (nv (σ.1 32 t) - 1) (by omega) ((hk.c.ph _ (by omega)).trans (if_pos hfy))) dX6_does_22 (lw_meth q1083) ⟨q1226, q1079, q1081, q1082, q91, jj_inT q1080 rfl⟩ ⟨by decide +kernel, by decide +kernel, by show _ = some (1 : Nat); decide +kernel⟩ ⟨Nat.le_of_ble_eq_true rfl, Nat.le_of_ble_eq_true rfl, Nat.le_of_ble_eq_true rfl, Nat.le_of_ble_eq_true rfl, Nat.le_of_ble_eq_true rfl⟩ (fun q => by cases q) hk.k.k7 jc_31 rfl (jj_keq ?_) jj_kno
  refine kk_topL (σ.2 30 (12 * t + (nv (σ.1 32 t) - 1))) ((hk.c.pn _ (by omega)).trans (if_pos hfy)) ?_
  refine kk_lstore (pc := 25) hX dX6_does_25 (by decide) ?_
  refine kk_aload_n (pc := 27) hX dX6_does_27 rfl ?_
  refine kk_getR (pc := 28) hX (x := some (β + 1000 + 10 * nv (σ.1 22 t))) fl_X6_29_29 dX6_does_28 hk.k.k0 rfl (hk.v.pr.trans (if_neg hn4)) ?_
  refine kk_aload_n (pc := 31) hX dX6_does_31 rfl ?_
  refine kk_getR (pc := 32) hX (x := some (β + 5000 + 20 * t + 7)) fl_X6_13_29 dX6_does_32 hk.k.k0 rfl hk4.l.pi ?_
  refine kk_iload (pc := 35) hX dX6_does_35 rfl ?_
  refine kk_callU (pc := 37) hX (owner := "BranchCells$Values") (v_Vnum31 X.1 _ _ _ _ (β + 5000 + 20 * t + 7) (β + 5000 + 20 * t + 8) (β + 5000 + 20 * t + 9) 12 hk.k.k7 hk.l.p0 hk.l.p1 hk.k.k8 hk.k.k9 (by decide) (nv (σ.1 32 t) - 1 - 1) (by omega) ((hk.c.ph _ (by omega)).trans (if_pos hfx))) dX6_does_37 (lw_meth q1083) ⟨q1226, q1079, q1081, q1082, q91, jj_inT q1080 rfl⟩ ⟨by decide +kernel, by decide +kernel, by show _ = some (1 : Nat); decide +kernel⟩ ⟨Nat.le_of_ble_eq_true rfl, Nat.le_of_ble_eq_true rfl, Nat.le_of_ble_eq_true rfl, Nat.le_of_ble_eq_true rfl, Nat.le_of_ble_eq_true rfl⟩ (fun q => by cases q) hk.k.k7 jc_31 rfl (jj_keq ?_) jj_kno
  refine kk_topL (σ.2 30 (12 * t + (nv (σ.1 32 t) - 1 - 1))) ((hk.c.pn _ (by omega)).trans (if_pos hfx)) ?_
  refine kk_callSN (pc := 40) hX (v_cell X.1 _ _ _ _ (σ.2 30 (12 * t + (nv (σ.1 32 t) - 1 - 1))) hx) dX6_does_40 (lw_meth q1219) (jj_inT q1227 rfl) ⟨q1218, q50⟩ ⟨by decide +kernel, by decide +kernel, by show _ = some (1 : Nat); decide +kernel⟩ ⟨Nat.le_of_ble_eq_true rfl, Nat.le_of_ble_eq_true rfl, Nat.le_of_ble_eq_true rfl, Nat.le_of_ble_eq_true rfl, Nat.le_of_ble_eq_true rfl⟩ (fun q => by cases q) rfl (jj_keq ?_) jj_kno
  refine kk_top (nI (nv ((σ.2 30 (12 * t + (nv (σ.1 32 t) - 1 - 1)))).toInt32)) (ce_nv hx).1 ?_
  refine kk_lload (pc := 43) hX dX6_does_43 rfl ?_
  refine kk_callV (pc := 45) hX (v_cwrite X.1 _ _ _ _ h4 hs9 (nv ((σ.2 30 (12 * t + (nv (σ.1 32 t) - 1 - 1)))).toInt32) (σ.2 30 (12 * t + (nv (σ.1 32 t) - 1))) (ce_nv hx).2) dX6_does_45 (lw_V q1228 q1182 q1183 q87 q1184) rfl ⟨by decide +kernel, by decide +kernel, by show _ = some (2 : Nat); decide +kernel⟩ ⟨Nat.le_of_ble_eq_true rfl, Nat.le_of_ble_eq_true rfl, Nat.le_of_ble_eq_true rfl, Nat.le_of_ble_eq_true rfl, Nat.le_of_ble_eq_true rfl⟩ (fun q => by cases q) hs.k0 jc_28 rfl (fun _ _ I5 L5 _ hP => ?_) jj_kno
  obtain ⟨rfl, rfl, rfl,  h5⟩ := hP
  exact kk_vret (pc := 48) hX dX6_does_48 hr ⟨Nat.le_refl _, Nat.le_refl _⟩ (⟨rfl, rfl, h5⟩)

theorem v_do4X (G : jj_G) (τ : jj_T) (I : jj_I) (L : jj_L) (r : jj_R) {β : Nat} {ss : List Nat} {e N : Nat → Nat} {ρ : jm} {σ : jm} {t : Nat} (h : cr_rel β ss e N ρ (cr_pl (σ.1 14) t (σ.1 14 t + 1)) σ τ I L r) (hv : m_inv σ) (ht : t < nv (σ.1 0 11)) (h0 : σ.1 15 t = 0) (a : Int32) (h2 : 2 ≤ nv (σ.1 32 t)) (hfy : ¬ σ.1 31 (12 * t + (nv (σ.1 32 t) - 1)) = 0) (q : Nat) (hq7 : τ q = none ∧ ¬ (1 ≤ q ∧ q ≤ 6)) (hq9 : β + 10000 ≤ q) : kk_M G yX6_does (ws_ yX6_does cX6_does 7 none) { frames := 5, cells := 1, slots := 7, locals := 110 } [jR (some 24), jR (some (β + 5000 + 20 * t)), jI a] true τ I L r jj_noP (fun a τ' I' L' r' => a = q ∧ I' q 6 = 2 ∧ cr_rel β ss e N ρ (cr_pl (σ.1 14) t (σ.1 14 t + 1)) (m_s2 t 2 σ) τ' I' L' r') := by
  refine kk_intro "BranchCells$5" (by decide) rfl (Nat.le_of_ble_eq_true rfl) ?_
  intro X hG hX hr hN hC hF hAd
  have hk := h.tk t ht
  have hT := hv.T
  have hp9 := (hv.tk t ht).po.1
  have hq := hp9.1
  have hp12 := hp9.2
  have hs9 := (hv.tk t ht).pr.2
  have hn4 : ¬ σ.1 22 t = -4 := by rw [(hv.tk t ht).pr.1]; exact nI_n4 (by have := hv.S; omega)
  have hs := h.sg _ hs9
  refine kk_aload_n (pc := 0) hX dX6_does_0 rfl ?_
  refine kk_getR (pc := 1) hX (x := some (β + 5000 + 20 * t + 7)) fl_X6_13_29 dX6_does_1 hk.k.k0 rfl hk.l.pi ?_
  refine kk_callV (pc := 4) hX (v_ctake X.1 _ _ _ _ h ht hq (by omega)) dX6_does_4 (lw_V q1225 q1075 q1076 q92 q1077) rfl ⟨by decide +kernel, by decide +kernel, by show _ = some (0 : Nat); decide +kernel⟩ ⟨Nat.le_of_ble_eq_true rfl, Nat.le_of_ble_eq_true rfl, Nat.le_of_ble_eq_true rfl, Nat.le_of_ble_eq_true rfl, Nat.le_of_ble_eq_true rfl⟩ (fun q => by cases q) hk.k.k7 jc_31 rfl (fun _ _ I3 _ _ hP => ?_) jj_kno
  obtain ⟨rfl, rfl, rfl, rfl,  h3⟩ := hP
  have hk3 := h3.tk t ht
  refine kk_istore_n (pc := 7) hX dX6_does_7 (by decide) ?_
  refine kk_aload_n (pc := 8) hX dX6_does_8 rfl ?_
  refine kk_getR (pc := 9) hX (x := some (β + 5000 + 20 * t + 7)) fl_X6_13_29 dX6_does_9 hk.k.k0 rfl hk3.l.pi ?_
  refine kk_callV (pc := 12) hX (v_ctake X.1 _ _ _ _ h3 ht (s2_v1 hq (by omega) hp9.2).2 (by rw [(s2_v1 hq (by omega) hp9.2).1]; omega)) dX6_does_12 (lw_V q1225 q1075 q1076 q92 q1077) rfl ⟨by decide +kernel, by decide +kernel, by show _ = some (0 : Nat); decide +kernel⟩ ⟨Nat.le_of_ble_eq_true rfl, Nat.le_of_ble_eq_true rfl, Nat.le_of_ble_eq_true rfl, Nat.le_of_ble_eq_true rfl, Nat.le_of_ble_eq_true rfl⟩ (fun q => by cases q) hk.k.k7 jc_31 rfl (fun _ _ I4 _ _ hP => ?_) jj_kno
  obtain ⟨rfl, rfl, rfl, rfl,  h4⟩ := hP
  rw [s2_2 hq h2 hp9.2] at h4
  have hk4 := h4.tk t ht
  refine kk_top (nI (nv (σ.1 32 t) - 1 - 1)) (by rw [(s2_v1 hq (by omega) hp9.2).1]) ?_
  refine kk_istore (pc := 15) hX dX6_does_15 (by decide) ?_
  refine kk_aload_n (pc := 17) hX dX6_does_17 rfl ?_
  refine kk_getR (pc := 18) hX (x := some (β + 5000 + 20 * t + 7)) fl_X6_13_29 dX6_does_18 hk.k.k0 rfl hk4.l.pi ?_
  refine kk_iload_n (pc := 21) hX dX6_does_21 rfl ?_
  refine kk_callU (pc := 22) hX (owner := "BranchCells$Values") (v_VnumX31 X.1 _ _ _ _ (β + 5000 + 20 * t + 7) (β + 5000 + 20 * t + 8) (β + 5000 + 20 * t + 9) 12 hk.k.k7 hk.l.p0 hk.l.p1 hk.k.k8 hk.k.k9 (by decide) (nv (σ.1 32 t) - 1) _ (by omega) ((hk.c.ph _ (by omega)).trans (if_neg hfy)) q hq7) dX6_does_22 (lw_meth q1083) ⟨q1226, q1079, q1081, q1082, q91, jj_inT q1080 rfl⟩ ⟨by decide +kernel, by decide +kernel, by show _ = some (1 : Nat); decide +kernel⟩ ⟨Nat.le_of_ble_eq_true rfl, Nat.le_of_ble_eq_true rfl, Nat.le_of_ble_eq_true rfl, Nat.le_of_ble_eq_true rfl, Nat.le_of_ble_eq_true rfl⟩ (fun _ => hF rfl) hk.k.k7 jc_31 rfl jj_knp (jj_kth ?_)
  exact kk_out (pc := 22) hX hN ⟨Nat.le_refl _, Nat.le_refl _⟩ (⟨rfl, jj_us, (cr_rel.gar h4 hq7.1 hq9 (fun b hb => jj_tn hb) (fun b hb => (jj_ua hb).trans (jj_zn hb)) (fun b hb => jj_zn hb) (fun b hb => (jj_ua hb).trans ((jj_ua hb).trans ((jj_ua hb).trans ((jj_ua hb).trans ((jj_ua hb).trans ((jj_ua hb).trans ((jj_ua hb).trans (jj_zn hb)))))))))⟩)

theorem v_do4Z (G : jj_G) (τ : jj_T) (I : jj_I) (L : jj_L) (r : jj_R) {β : Nat} {ss : List Nat} {e N : Nat → Nat} {ρ : jm} {σ : jm} {t : Nat} (h : cr_rel β ss e N ρ (cr_pl (σ.1 14) t (σ.1 14 t + 1)) σ τ I L r) (hv : m_inv σ) (ht : t < nv (σ.1 0 11)) (h0 : σ.1 15 t = 0) (a : Int32) (h2 : 2 ≤ nv (σ.1 32 t)) (hfy : σ.1 31 (12 * t + (nv (σ.1 32 t) - 1)) = 0) (hfx : ¬ σ.1 31 (12 * t + (nv (σ.1 32 t) - 1 - 1)) = 0) (q : Nat) (hq7 : τ q = none ∧ ¬ (1 ≤ q ∧ q ≤ 6)) (hq9 : β + 10000 ≤ q) : kk_M G yX6_does (ws_ yX6_does cX6_does 7 none) { frames := 5, cells := 1, slots := 7, locals := 110 } [jR (some 24), jR (some (β + 5000 + 20 * t)), jI a] true τ I L r jj_noP (fun a τ' I' L' r' => a = q ∧ I' q 6 = 2 ∧ cr_rel β ss e N ρ (cr_pl (σ.1 14) t (σ.1 14 t + 1)) (m_s2 t 2 σ) τ' I' L' r') := by
  refine kk_intro "BranchCells$5" (by decide) rfl (Nat.le_of_ble_eq_true rfl) ?_
  intro X hG hX hr hN hC hF hAd
  have hk := h.tk t ht
  have hT := hv.T
  have hp9 := (hv.tk t ht).po.1
  have hq := hp9.1
  have hp12 := hp9.2
  have hs9 := (hv.tk t ht).pr.2
  have hn4 : ¬ σ.1 22 t = -4 := by rw [(hv.tk t ht).pr.1]; exact nI_n4 (by have := hv.S; omega)
  have hs := h.sg _ hs9
  refine kk_aload_n (pc := 0) hX dX6_does_0 rfl ?_
  refine kk_getR (pc := 1) hX (x := some (β + 5000 + 20 * t + 7)) fl_X6_13_29 dX6_does_1 hk.k.k0 rfl hk.l.pi ?_
  refine kk_callV (pc := 4) hX (v_ctake X.1 _ _ _ _ h ht hq (by omega)) dX6_does_4 (lw_V q1225 q1075 q1076 q92 q1077) rfl ⟨by decide +kernel, by decide +kernel, by show _ = some (0 : Nat); decide +kernel⟩ ⟨Nat.le_of_ble_eq_true rfl, Nat.le_of_ble_eq_true rfl, Nat.le_of_ble_eq_true rfl, Nat.le_of_ble_eq_true rfl, Nat.le_of_ble_eq_true rfl⟩ (fun q => by cases q) hk.k.k7 jc_31 rfl (fun _ _ I3 _ _ hP => ?_) jj_kno
  obtain ⟨rfl, rfl, rfl, rfl,  h3⟩ := hP
  have hk3 := h3.tk t ht
  refine kk_istore_n (pc := 7) hX dX6_does_7 (by decide) ?_
  refine kk_aload_n (pc := 8) hX dX6_does_8 rfl ?_
  refine kk_getR (pc := 9) hX (x := some (β + 5000 + 20 * t + 7)) fl_X6_13_29 dX6_does_9 hk.k.k0 rfl hk3.l.pi ?_
  refine kk_callV (pc := 12) hX (v_ctake X.1 _ _ _ _ h3 ht (s2_v1 hq (by omega) hp9.2).2 (by rw [(s2_v1 hq (by omega) hp9.2).1]; omega)) dX6_does_12 (lw_V q1225 q1075 q1076 q92 q1077) rfl ⟨by decide +kernel, by decide +kernel, by show _ = some (0 : Nat); decide +kernel⟩ ⟨Nat.le_of_ble_eq_true rfl, Nat.le_of_ble_eq_true rfl, Nat.le_of_ble_eq_true rfl, Nat.le_of_ble_eq_true rfl, Nat.le_of_ble_eq_true rfl⟩ (fun q => by cases q) hk.k.k7 jc_31 rfl (fun _ _ I4 _ _ hP => ?_) jj_kno
  obtain ⟨rfl, rfl, rfl, rfl,  h4⟩ := hP
  rw [s2_2 hq h2 hp9.2] at h4
  have hk4 := h4.tk t ht
  refine kk_top (nI (nv (σ.1 32 t) - 1 - 1)) (by rw [(s2_v1 hq (by omega) hp9.2).1]) ?_
  refine kk_istore (pc := 15) hX dX6_does_15 (by decide) ?_
  refine kk_aload_n (pc := 17) hX dX6_does_17 rfl ?_
  refine kk_getR (pc := 18) hX (x := some (β + 5000 + 20 * t + 7)) fl_X6_13_29 dX6_does_18 hk.k.k0 rfl hk4.l.pi ?_
  refine kk_iload_n (pc := 21) hX dX6_does_21 rfl ?_
  refine kk_callU (pc := 22) hX (owner := "BranchCells$Values") (v_Vnum31 X.1 _ _ _ _ (β + 5000 + 20 * t + 7) (β + 5000 + 20 * t + 8) (β + 5000 + 20 * t + 9) 12 hk.k.k7 hk.l.p0 hk.l.p1 hk.k.k8 hk.k.k9 (by decide) (nv (σ.1 32 t) - 1) (by omega) ((hk.c.ph _ (by omega)).trans (if_pos hfy))) dX6_does_22 (lw_meth q1083) ⟨q1226, q1079, q1081, q1082, q91, jj_inT q1080 rfl⟩ ⟨by decide +kernel, by decide +kernel, by show _ = some (1 : Nat); decide +kernel⟩ ⟨Nat.le_of_ble_eq_true rfl, Nat.le_of_ble_eq_true rfl, Nat.le_of_ble_eq_true rfl, Nat.le_of_ble_eq_true rfl, Nat.le_of_ble_eq_true rfl⟩ (fun q => by cases q) hk.k.k7 jc_31 rfl (jj_keq ?_) jj_kno
  refine kk_topL (σ.2 30 (12 * t + (nv (σ.1 32 t) - 1))) ((hk.c.pn _ (by omega)).trans (if_pos hfy)) ?_
  refine kk_lstore (pc := 25) hX dX6_does_25 (by decide) ?_
  refine kk_aload_n (pc := 27) hX dX6_does_27 rfl ?_
  refine kk_getR (pc := 28) hX (x := some (β + 1000 + 10 * nv (σ.1 22 t))) fl_X6_29_29 dX6_does_28 hk.k.k0 rfl (hk.v.pr.trans (if_neg hn4)) ?_
  refine kk_aload_n (pc := 31) hX dX6_does_31 rfl ?_
  refine kk_getR (pc := 32) hX (x := some (β + 5000 + 20 * t + 7)) fl_X6_13_29 dX6_does_32 hk.k.k0 rfl hk4.l.pi ?_
  refine kk_iload (pc := 35) hX dX6_does_35 rfl ?_
  refine kk_callU (pc := 37) hX (owner := "BranchCells$Values") (v_VnumX31 X.1 _ _ _ _ (β + 5000 + 20 * t + 7) (β + 5000 + 20 * t + 8) (β + 5000 + 20 * t + 9) 12 hk.k.k7 hk.l.p0 hk.l.p1 hk.k.k8 hk.k.k9 (by decide) (nv (σ.1 32 t) - 1 - 1) _ (by omega) ((hk.c.ph _ (by omega)).trans (if_neg hfx)) q hq7) dX6_does_37 (lw_meth q1083) ⟨q1226, q1079, q1081, q1082, q91, jj_inT q1080 rfl⟩ ⟨by decide +kernel, by decide +kernel, by show _ = some (1 : Nat); decide +kernel⟩ ⟨Nat.le_of_ble_eq_true rfl, Nat.le_of_ble_eq_true rfl, Nat.le_of_ble_eq_true rfl, Nat.le_of_ble_eq_true rfl, Nat.le_of_ble_eq_true rfl⟩ (fun _ => hF rfl) hk.k.k7 jc_31 rfl jj_knp (jj_kth ?_)
  exact kk_out (pc := 37) hX hN ⟨Nat.le_refl _, Nat.le_refl _⟩ (⟨rfl, jj_us, (cr_rel.gar h4 hq7.1 hq9 (fun b hb => jj_tn hb) (fun b hb => (jj_ua hb).trans (jj_zn hb)) (fun b hb => jj_zn hb) (fun b hb => (jj_ua hb).trans ((jj_ua hb).trans ((jj_ua hb).trans ((jj_ua hb).trans ((jj_ua hb).trans ((jj_ua hb).trans ((jj_ua hb).trans (jj_zn hb)))))))))⟩)

theorem v_do4Y (G : jj_G) (τ : jj_T) (I : jj_I) (L : jj_L) (r : jj_R) {β : Nat} {ss : List Nat} {e N : Nat → Nat} {ρ : jm} {σ : jm} {t : Nat} (h : cr_rel β ss e N ρ (cr_pl (σ.1 14) t (σ.1 14 t + 1)) σ τ I L r) (hv : m_inv σ) (ht : t < nv (σ.1 0 11)) (h0 : σ.1 15 t = 0) (a : Int32) (h2 : 2 ≤ nv (σ.1 32 t)) (hfy : σ.1 31 (12 * t + (nv (σ.1 32 t) - 1)) = 0) (hfx : σ.1 31 (12 * t + (nv (σ.1 32 t) - 1 - 1)) = 0) (hx : ¬ (0 ≤ (σ.2 30 (12 * t + (nv (σ.1 32 t) - 1 - 1))) ∧ (σ.2 30 (12 * t + (nv (σ.1 32 t) - 1 - 1))) ≤ 15)) (q : Nat) (hq7 : τ q = none ∧ ¬ (1 ≤ q ∧ q ≤ 6)) (hq9 : β + 10000 ≤ q) : kk_M G yX6_does (ws_ yX6_does cX6_does 7 none) { frames := 5, cells := 1, slots := 7, locals := 110 } [jR (some 24), jR (some (β + 5000 + 20 * t)), jI a] true τ I L r jj_noP (fun a τ' I' L' r' => a = q ∧ I' q 6 = 9 ∧ cr_rel β ss e N ρ (cr_pl (σ.1 14) t (σ.1 14 t + 1)) (m_s2 t 2 σ) τ' I' L' r') := by
  refine kk_intro "BranchCells$5" (by decide) rfl (Nat.le_of_ble_eq_true rfl) ?_
  intro X hG hX hr hN hC hF hAd
  have hk := h.tk t ht
  have hT := hv.T
  have hp9 := (hv.tk t ht).po.1
  have hq := hp9.1
  have hp12 := hp9.2
  have hs9 := (hv.tk t ht).pr.2
  have hn4 : ¬ σ.1 22 t = -4 := by rw [(hv.tk t ht).pr.1]; exact nI_n4 (by have := hv.S; omega)
  have hs := h.sg _ hs9
  refine kk_aload_n (pc := 0) hX dX6_does_0 rfl ?_
  refine kk_getR (pc := 1) hX (x := some (β + 5000 + 20 * t + 7)) fl_X6_13_29 dX6_does_1 hk.k.k0 rfl hk.l.pi ?_
  refine kk_callV (pc := 4) hX (v_ctake X.1 _ _ _ _ h ht hq (by omega)) dX6_does_4 (lw_V q1225 q1075 q1076 q92 q1077) rfl ⟨by decide +kernel, by decide +kernel, by show _ = some (0 : Nat); decide +kernel⟩ ⟨Nat.le_of_ble_eq_true rfl, Nat.le_of_ble_eq_true rfl, Nat.le_of_ble_eq_true rfl, Nat.le_of_ble_eq_true rfl, Nat.le_of_ble_eq_true rfl⟩ (fun q => by cases q) hk.k.k7 jc_31 rfl (fun _ _ I3 _ _ hP => ?_) jj_kno
  obtain ⟨rfl, rfl, rfl, rfl,  h3⟩ := hP
  have hk3 := h3.tk t ht
  refine kk_istore_n (pc := 7) hX dX6_does_7 (by decide) ?_
  refine kk_aload_n (pc := 8) hX dX6_does_8 rfl ?_
  refine kk_getR (pc := 9) hX (x := some (β + 5000 + 20 * t + 7)) fl_X6_13_29 dX6_does_9 hk.k.k0 rfl hk3.l.pi ?_
  refine kk_callV (pc := 12) hX (v_ctake X.1 _ _ _ _ h3 ht (s2_v1 hq (by omega) hp9.2).2 (by rw [(s2_v1 hq (by omega) hp9.2).1]; omega)) dX6_does_12 (lw_V q1225 q1075 q1076 q92 q1077) rfl ⟨by decide +kernel, by decide +kernel, by show _ = some (0 : Nat); decide +kernel⟩ ⟨Nat.le_of_ble_eq_true rfl, Nat.le_of_ble_eq_true rfl, Nat.le_of_ble_eq_true rfl, Nat.le_of_ble_eq_true rfl, Nat.le_of_ble_eq_true rfl⟩ (fun q => by cases q) hk.k.k7 jc_31 rfl (fun _ _ I4 _ _ hP => ?_) jj_kno
  obtain ⟨rfl, rfl, rfl, rfl,  h4⟩ := hP
  rw [s2_2 hq h2 hp9.2] at h4
  have hk4 := h4.tk t ht
  refine kk_top (nI (nv (σ.1 32 t) - 1 - 1)) (by rw [(s2_v1 hq (by omega) hp9.2).1]) ?_
  refine kk_istore (pc := 15) hX dX6_does_15 (by decide) ?_
  refine kk_aload_n (pc := 17) hX dX6_does_17 rfl ?_
  refine kk_getR (pc := 18) hX (x := some (β + 5000 + 20 * t + 7)) fl_X6_13_29 dX6_does_18 hk.k.k0 rfl hk4.l.pi ?_
  refine kk_iload_n (pc := 21) hX dX6_does_21 rfl ?_
  refine kk_callU (pc := 22) hX (owner := "BranchCells$Values") (v_Vnum31 X.1 _ _ _ _ (β + 5000 + 20 * t + 7) (β + 5000 + 20 * t + 8) (β + 5000 + 20 * t + 9) 12 hk.k.k7 hk.l.p0 hk.l.p1 hk.k.k8 hk.k.k9 (by decide) (nv (σ.1 32 t) - 1) (by omega) ((hk.c.ph _ (by omega)).trans (if_pos hfy))) dX6_does_22 (lw_meth q1083) ⟨q1226, q1079, q1081, q1082, q91, jj_inT q1080 rfl⟩ ⟨by decide +kernel, by decide +kernel, by show _ = some (1 : Nat); decide +kernel⟩ ⟨Nat.le_of_ble_eq_true rfl, Nat.le_of_ble_eq_true rfl, Nat.le_of_ble_eq_true rfl, Nat.le_of_ble_eq_true rfl, Nat.le_of_ble_eq_true rfl⟩ (fun q => by cases q) hk.k.k7 jc_31 rfl (jj_keq ?_) jj_kno
  refine kk_topL (σ.2 30 (12 * t + (nv (σ.1 32 t) - 1))) ((hk.c.pn _ (by omega)).trans (if_pos hfy)) ?_
  refine kk_lstore (pc := 25) hX dX6_does_25 (by decide) ?_
  refine kk_aload_n (pc := 27) hX dX6_does_27 rfl ?_
  refine kk_getR (pc := 28) hX (x := some (β + 1000 + 10 * nv (σ.1 22 t))) fl_X6_29_29 dX6_does_28 hk.k.k0 rfl (hk.v.pr.trans (if_neg hn4)) ?_
  refine kk_aload_n (pc := 31) hX dX6_does_31 rfl ?_
  refine kk_getR (pc := 32) hX (x := some (β + 5000 + 20 * t + 7)) fl_X6_13_29 dX6_does_32 hk.k.k0 rfl hk4.l.pi ?_
  refine kk_iload (pc := 35) hX dX6_does_35 rfl ?_
  refine kk_callU (pc := 37) hX (owner := "BranchCells$Values") (v_Vnum31 X.1 _ _ _ _ (β + 5000 + 20 * t + 7) (β + 5000 + 20 * t + 8) (β + 5000 + 20 * t + 9) 12 hk.k.k7 hk.l.p0 hk.l.p1 hk.k.k8 hk.k.k9 (by decide) (nv (σ.1 32 t) - 1 - 1) (by omega) ((hk.c.ph _ (by omega)).trans (if_pos hfx))) dX6_does_37 (lw_meth q1083) ⟨q1226, q1079, q1081, q1082, q91, jj_inT q1080 rfl⟩ ⟨by decide +kernel, by decide +kernel, by show _ = some (1 : Nat); decide +kernel⟩ ⟨Nat.le_of_ble_eq_true rfl, Nat.le_of_ble_eq_true rfl, Nat.le_of_ble_eq_true rfl, Nat.le_of_ble_eq_true rfl, Nat.le_of_ble_eq_true rfl⟩ (fun q => by cases q) hk.k.k7 jc_31 rfl (jj_keq ?_) jj_kno
  refine kk_topL (σ.2 30 (12 * t + (nv (σ.1 32 t) - 1 - 1))) ((hk.c.pn _ (by omega)).trans (if_pos hfx)) ?_
  refine kk_callSN (pc := 40) hX (v_cellX X.1 _ _ _ _ (σ.2 30 (12 * t + (nv (σ.1 32 t) - 1 - 1))) hx q hq7) dX6_does_40 (lw_meth q1219) (jj_inT q1227 rfl) ⟨q1218, q50⟩ ⟨by decide +kernel, by decide +kernel, by show _ = some (1 : Nat); decide +kernel⟩ ⟨Nat.le_of_ble_eq_true rfl, Nat.le_of_ble_eq_true rfl, Nat.le_of_ble_eq_true rfl, Nat.le_of_ble_eq_true rfl, Nat.le_of_ble_eq_true rfl⟩ (fun _ => hF rfl) rfl jj_knp (jj_kth ?_)
  exact kk_out (pc := 40) hX hN ⟨Nat.le_refl _, Nat.le_refl _⟩ (⟨rfl, jj_us, (cr_rel.gar h4 hq7.1 hq9 (fun b hb => jj_tn hb) (fun b hb => (jj_ua hb).trans (jj_zn hb)) (fun b hb => jj_zn hb) (fun b hb => (jj_ua hb).trans ((jj_ua hb).trans ((jj_ua hb).trans ((jj_ua hb).trans ((jj_ua hb).trans ((jj_ua hb).trans ((jj_ua hb).trans (jj_zn hb)))))))))⟩)

theorem v_of5 (G : jj_G) (τ : jj_T) (I : jj_I) (L : jj_L) (r : jj_R) (th : Nat) (x y : Int64) : kk_M G yX8_of (ws_ yX8_of cX8_of 5 (some .long)) { frames := 0, cells := 0, slots := 0, locals := 0 } [jR (some th), jL x, jL y] false τ I L r (jj_eq (some (jL (x + y))) τ I L r) jj_no := by
  refine kk_intro "BranchCells$6" (by decide) rfl (Nat.le_of_ble_eq_true rfl) ?_
  intro X hG hX hr hN hC hF hAd
  refine kk_lload_n (pc := 0) hX dX8_of_0 rfl ?_
  refine kk_lload_n (pc := 1) hX dX8_of_1 rfl ?_
  refine kk_ladd (pc := 2) hX dX8_of_2 ?_
  exact kk_lret (pc := 3) hX dX8_of_3 hr ⟨Nat.le_refl _, Nat.le_refl _⟩ (⟨rfl, rfl, rfl, rfl, rfl⟩)

theorem v_of6 (G : jj_G) (τ : jj_T) (I : jj_I) (L : jj_L) (r : jj_R) (th : Nat) (x y : Int64) : kk_M G yX9_of (ws_ yX9_of cX9_of 5 (some .long)) { frames := 0, cells := 0, slots := 0, locals := 0 } [jR (some th), jL x, jL y] false τ I L r (jj_eq (some (jL (x - y))) τ I L r) jj_no := by
  refine kk_intro "BranchCells$7" (by decide) rfl (Nat.le_of_ble_eq_true rfl) ?_
  intro X hG hX hr hN hC hF hAd
  refine kk_lload_n (pc := 0) hX dX9_of_0 rfl ?_
  refine kk_lload_n (pc := 1) hX dX9_of_1 rfl ?_
  refine kk_lsub (pc := 2) hX dX9_of_2 ?_
  exact kk_lret (pc := 3) hX dX9_of_3 hr ⟨Nat.le_refl _, Nat.le_refl _⟩ (⟨rfl, rfl, rfl, rfl, rfl⟩)

theorem v_of7 (G : jj_G) (τ : jj_T) (I : jj_I) (L : jj_L) (r : jj_R) (th : Nat) (x y : Int64) : kk_M G yX10_of (ws_ yX10_of cX10_of 5 (some .long)) { frames := 0, cells := 0, slots := 0, locals := 0 } [jR (some th), jL x, jL y] false τ I L r (jj_eq (some (jL (x * y))) τ I L r) jj_no := by
  refine kk_intro "BranchCells$8" (by decide) rfl (Nat.le_of_ble_eq_true rfl) ?_
  intro X hG hX hr hN hC hF hAd
  refine kk_lload_n (pc := 0) hX dX10_of_0 rfl ?_
  refine kk_lload_n (pc := 1) hX dX10_of_1 rfl ?_
  refine kk_lmul (pc := 2) hX dX10_of_2 ?_
  exact kk_lret (pc := 3) hX dX10_of_3 hr ⟨Nat.le_refl _, Nat.le_refl _⟩ (⟨rfl, rfl, rfl, rfl, rfl⟩)

theorem v_of8 (G : jj_G) (τ : jj_T) (I : jj_I) (L : jj_L) (r : jj_R) (th : Nat) (x y : Int64) (hy : ¬ y = 0) : kk_M G yX11_of (ws_ yX11_of cX11_of 5 (some .long)) { frames := 4, cells := 0, slots := 0, locals := 89 } [jR (some th), jL x, jL y] false τ I L r (jj_eq (some (jL (x / y))) τ I L r) jj_no := by
  refine kk_intro "BranchCells$9" (by decide) rfl (Nat.le_of_ble_eq_true rfl) ?_
  intro X hG hX hr hN hC hF hAd
  refine kk_lload_n (pc := 0) hX dX11_of_0 rfl ?_
  refine kk_lconst (pc := 1) hX (v := 0) dX11_of_1 (by decide) ?_
  refine kk_lcmp (pc := 2) hX dX11_of_2 ?_
  refine kk_if_ne (pc := 3) hX 15 dX11_of_3 rfl (fun _ => ?_) (fun q => absurd q (fun z => hy ((lg_cmp_eq y 0).mp z)))
  refine kk_lload_n (pc := 15) hX dX11_of_15 rfl ?_
  refine kk_lload_n (pc := 16) hX dX11_of_16 rfl ?_
  refine kk_ldiv (pc := 17) hX dX11_of_17 hy ?_
  exact kk_lret (pc := 18) hX dX11_of_18 hr ⟨Nat.le_refl _, Nat.le_refl _⟩ (⟨rfl, rfl, rfl, rfl, rfl⟩)

theorem v_of9 (G : jj_G) (τ : jj_T) (I : jj_I) (L : jj_L) (r : jj_R) (th : Nat) (x y : Int64) : kk_M G yX12_of (ws_ yX12_of cX12_of 5 (some .long)) { frames := 0, cells := 0, slots := 0, locals := 0 } [jR (some th), jL x, jL y] false τ I L r (jj_eq (some (jL (if y ≤ x then 0 else 1))) τ I L r) jj_no := by
  refine kk_intro "BranchCells$10" (by decide) rfl (Nat.le_of_ble_eq_true rfl) ?_
  intro X hG hX hr hN hC hF hAd
  refine kk_lload_n (pc := 0) hX dX12_of_0 rfl ?_
  refine kk_lload_n (pc := 1) hX dX12_of_1 rfl ?_
  refine kk_lcmp (pc := 2) hX dX12_of_2 ?_
  refine kk_if_ge (pc := 3) hX 10 dX12_of_3 rfl (fun h3 => ?_) (fun h3 => ?_)
  · have h3 := (lg_cmp_ge x y).mp h3
    refine kk_lconst (pc := 10) hX (v := 0) dX12_of_10 (by decide) ?_
    refine kk_lret (pc := 11) hX dX12_of_11 hr ⟨Nat.le_refl _, Nat.le_refl _⟩ ?_
    rw [if_pos h3]
    exact ⟨rfl, rfl, rfl, rfl, rfl⟩
  · have h3 := (not_congr (lg_cmp_ge x y)).mp h3
    refine kk_lconst (pc := 6) hX (v := 1) dX12_of_6 (by decide) ?_
    refine kk_goto (pc := 7) hX 11 dX12_of_7 rfl ?_
    refine kk_lret (pc := 11) hX dX12_of_11 hr ⟨Nat.le_refl _, Nat.le_refl _⟩ ?_
    rw [if_neg h3]
    exact ⟨rfl, rfl, rfl, rfl, rfl⟩

theorem v_of10 (G : jj_G) (τ : jj_T) (I : jj_I) (L : jj_L) (r : jj_R) (th : Nat) (x y : Int64) : kk_M G yX13_of (ws_ yX13_of cX13_of 5 (some .long)) { frames := 0, cells := 0, slots := 0, locals := 0 } [jR (some th), jL x, jL y] false τ I L r (jj_eq (some (jL (x &&& y))) τ I L r) jj_no := by
  refine kk_intro "BranchCells$11" (by decide) rfl (Nat.le_of_ble_eq_true rfl) ?_
  intro X hG hX hr hN hC hF hAd
  refine kk_lload_n (pc := 0) hX dX13_of_0 rfl ?_
  refine kk_lload_n (pc := 1) hX dX13_of_1 rfl ?_
  refine kk_land (pc := 2) hX dX13_of_2 ?_
  exact kk_lret (pc := 3) hX dX13_of_3 hr ⟨Nat.le_refl _, Nat.le_refl _⟩ (⟨rfl, rfl, rfl, rfl, rfl⟩)

theorem v_of11 (G : jj_G) (τ : jj_T) (I : jj_I) (L : jj_L) (r : jj_R) (th : Nat) (x y : Int64) : kk_M G yX14_of (ws_ yX14_of cX14_of 5 (some .long)) { frames := 0, cells := 0, slots := 0, locals := 0 } [jR (some th), jL x, jL y] false τ I L r (jj_eq (some (jL (x ||| y))) τ I L r) jj_no := by
  refine kk_intro "BranchCells$12" (by decide) rfl (Nat.le_of_ble_eq_true rfl) ?_
  intro X hG hX hr hN hC hF hAd
  refine kk_lload_n (pc := 0) hX dX14_of_0 rfl ?_
  refine kk_lload_n (pc := 1) hX dX14_of_1 rfl ?_
  refine kk_lor (pc := 2) hX dX14_of_2 ?_
  exact kk_lret (pc := 3) hX dX14_of_3 hr ⟨Nat.le_refl _, Nat.le_refl _⟩ (⟨rfl, rfl, rfl, rfl, rfl⟩)

theorem v_of8X (G : jj_G) (τ : jj_T) (I : jj_I) (L : jj_L) (r : jj_R) (th : Nat) (x y : Int64) (hy : y = 0) (q : Nat) (hq : τ q = none ∧ ¬ (1 ≤ q ∧ q ≤ 6)) : kk_M G yX11_of (ws_ yX11_of cX11_of 5 (some .long)) { frames := 4, cells := 1, slots := 7, locals := 89 } [jR (some th), jL x, jL y] true τ I L r jj_noP (jj_th q (jj_t τ q (.inl 32)) (jj_u (jj_z I q 0) q 6 1) (jj_z L q 0) (jj_u (jj_u (jj_u (jj_u (jj_u (jj_u (jj_u (jj_z r q none) q 0 (some q)) q 1 (some 5)) q 2 (some 6)) q 1 none) q 3 none) q 0 none) q 2 none)) := by
  refine kk_intro "BranchCells$9" (by decide) rfl (Nat.le_of_ble_eq_true rfl) ?_
  intro X hG hX hr hN hC hF hAd
  refine kk_lload_n (pc := 0) hX dX11_of_0 rfl ?_
  refine kk_lconst (pc := 1) hX (v := 0) dX11_of_1 (by decide) ?_
  refine kk_lcmp (pc := 2) hX dX11_of_2 ?_
  refine kk_if_ne (pc := 3) hX 15 dX11_of_3 rfl (fun q => absurd ((lg_cmp_eq y 0).mpr hy) q) (fun _ => ?_)
  refine kk_new (pc := 6) hX q ⟨hq.1, hq.2⟩ (hF rfl) dX11_of_6 jc_32 q1110 q963 q95 (by decide) ⟨Nat.le_of_ble_eq_true rfl, Nat.le_of_ble_eq_true rfl⟩ ?_
  refine kk_dup (pc := 9) hX dX11_of_9 rfl ?_
  refine kk_iconst (pc := 10) hX (v := 1) dX11_of_10 (by decide) ?_
  refine kk_callI (pc := 11) hX (v_Fi X.1 _ _ _ _ q jj_ts 1) dX11_of_11 (lw_meth q1001) ⟨q1111, q1000, q95, rfl⟩ ⟨by decide +kernel, by decide +kernel, by show _ = some (1 : Nat); decide +kernel⟩ ⟨Nat.le_of_ble_eq_true rfl, Nat.le_of_ble_eq_true rfl, Nat.le_of_ble_eq_true rfl, Nat.le_of_ble_eq_true rfl, Nat.le_of_ble_eq_true rfl⟩ (fun q => by cases q) rfl (jj_keq ?_) jj_kno
  refine kk_athrow (pc := 14) hX dX11_of_14 jj_ts ?_
  exact kk_out (pc := 14) hX hN ⟨Nat.le_refl _, Nat.le_refl _⟩ (⟨rfl, rfl, rfl, rfl, rfl⟩)

theorem v_do5 (G : jj_G) (τ : jj_T) (I : jj_I) (L : jj_L) (r : jj_R) {β : Nat} {ss : List Nat} {e N : Nat → Nat} {ρ : jm} {σ : jm} {t : Nat} (h : cr_rel β ss e N ρ (cr_pl (σ.1 14) t (σ.1 14 t + 1)) σ τ I L r) (hv : m_inv σ) (ht : t < nv (σ.1 0 11)) (h0 : σ.1 15 t = 0) (a : Int32) (h2 : 2 ≤ nv (σ.1 32 t)) (hfy : σ.1 31 (12 * t + (nv (σ.1 32 t) - 1)) = 0) (hfx : σ.1 31 (12 * t + (nv (σ.1 32 t) - 1 - 1)) = 0) : kk_M G yX7_does (ws_ yX7_does cX7_does 7 none) { frames := 6, cells := 0, slots := 0, locals := 134 } [jR (some 25), jR (some (β + 5000 + 20 * t)), jI a] false τ I L r (fun v' τ' I' L' r' => v' = none ∧ τ' = τ ∧ cr_rel β ss e N ρ (cr_pl (σ.1 14) t (σ.1 14 t + 1)) (m_push t ((σ.2 30 (12 * t + (nv (σ.1 32 t) - 1 - 1))) + (σ.2 30 (12 * t + (nv (σ.1 32 t) - 1)))) 0 (m_s2 t 2 σ)) τ I' L' r') jj_no := by
  refine kk_intro "BranchCells$Reckoner" (by decide) rfl (Nat.le_of_ble_eq_true rfl) ?_
  intro X hG hX hr hN hC hF hAd
  have hk := h.tk t ht
  have hT := hv.T
  have hp9 := (hv.tk t ht).po.1
  have hq := hp9.1
  have hp12 := hp9.2
  have hs9 := (hv.tk t ht).pr.2
  have hn4 : ¬ σ.1 22 t = -4 := by rw [(hv.tk t ht).pr.1]; exact nI_n4 (by have := hv.S; omega)
  have hs := h.sg _ hs9
  refine kk_aload_n (pc := 0) hX dX7_does_0 rfl ?_
  refine kk_getR (pc := 1) hX (x := some (β + 5000 + 20 * t + 7)) fl_X7_13_29 dX7_does_1 hk.k.k0 rfl hk.l.pi ?_
  refine kk_callV (pc := 4) hX (v_ctake X.1 _ _ _ _ h ht hq (by omega)) dX7_does_4 (lw_V q1074 q1075 q1076 q92 q1077) rfl ⟨by decide +kernel, by decide +kernel, by show _ = some (0 : Nat); decide +kernel⟩ ⟨Nat.le_of_ble_eq_true rfl, Nat.le_of_ble_eq_true rfl, Nat.le_of_ble_eq_true rfl, Nat.le_of_ble_eq_true rfl, Nat.le_of_ble_eq_true rfl⟩ (fun q => by cases q) hk.k.k7 jc_31 rfl (fun _ _ I3 _ _ hP => ?_) jj_kno
  obtain ⟨rfl, rfl, rfl, rfl,  h3⟩ := hP
  have hk3 := h3.tk t ht
  refine kk_istore_n (pc := 7) hX dX7_does_7 (by decide) ?_
  refine kk_aload_n (pc := 8) hX dX7_does_8 rfl ?_
  refine kk_getR (pc := 9) hX (x := some (β + 5000 + 20 * t + 7)) fl_X7_13_29 dX7_does_9 hk.k.k0 rfl hk3.l.pi ?_
  refine kk_callV (pc := 12) hX (v_ctake X.1 _ _ _ _ h3 ht (s2_v1 hq (by omega) hp9.2).2 (by rw [(s2_v1 hq (by omega) hp9.2).1]; omega)) dX7_does_12 (lw_V q1074 q1075 q1076 q92 q1077) rfl ⟨by decide +kernel, by decide +kernel, by show _ = some (0 : Nat); decide +kernel⟩ ⟨Nat.le_of_ble_eq_true rfl, Nat.le_of_ble_eq_true rfl, Nat.le_of_ble_eq_true rfl, Nat.le_of_ble_eq_true rfl, Nat.le_of_ble_eq_true rfl⟩ (fun q => by cases q) hk.k.k7 jc_31 rfl (fun _ _ I4 _ _ hP => ?_) jj_kno
  obtain ⟨rfl, rfl, rfl, rfl,  h4⟩ := hP
  rw [s2_2 hq h2 hp9.2] at h4
  have hk4 := h4.tk t ht
  refine kk_top (nI (nv (σ.1 32 t) - 1 - 1)) (by rw [(s2_v1 hq (by omega) hp9.2).1]) ?_
  refine kk_istore (pc := 15) hX dX7_does_15 (by decide) ?_
  refine kk_aload_n (pc := 17) hX dX7_does_17 rfl ?_
  refine kk_getR (pc := 18) hX (x := some (β + 5000 + 20 * t + 7)) fl_X7_13_29 dX7_does_18 hk.k.k0 rfl hk4.l.pi ?_
  refine kk_iload_n (pc := 21) hX dX7_does_21 rfl ?_
  refine kk_callU (pc := 22) hX (owner := "BranchCells$Values") (v_Vnum31 X.1 _ _ _ _ (β + 5000 + 20 * t + 7) (β + 5000 + 20 * t + 8) (β + 5000 + 20 * t + 9) 12 hk.k.k7 hk.l.p0 hk.l.p1 hk.k.k8 hk.k.k9 (by decide) (nv (σ.1 32 t) - 1) (by omega) ((hk.c.ph _ (by omega)).trans (if_pos hfy))) dX7_does_22 (lw_meth q1083) ⟨q1078, q1079, q1081, q1082, q91, jj_inT q1080 rfl⟩ ⟨by decide +kernel, by decide +kernel, by show _ = some (1 : Nat); decide +kernel⟩ ⟨Nat.le_of_ble_eq_true rfl, Nat.le_of_ble_eq_true rfl, Nat.le_of_ble_eq_true rfl, Nat.le_of_ble_eq_true rfl, Nat.le_of_ble_eq_true rfl⟩ (fun q => by cases q) hk.k.k7 jc_31 rfl (jj_keq ?_) jj_kno
  refine kk_topL (σ.2 30 (12 * t + (nv (σ.1 32 t) - 1))) ((hk.c.pn _ (by omega)).trans (if_pos hfy)) ?_
  refine kk_lstore (pc := 25) hX dX7_does_25 (by decide) ?_
  refine kk_aload_n (pc := 27) hX dX7_does_27 rfl ?_
  refine kk_aload_n (pc := 28) hX dX7_does_28 rfl ?_
  refine kk_aload_n (pc := 29) hX dX7_does_29 rfl ?_
  refine kk_getR (pc := 30) hX (x := some (β + 5000 + 20 * t + 7)) fl_X7_13_29 dX7_does_30 hk.k.k0 rfl hk4.l.pi ?_
  refine kk_iload (pc := 33) hX dX7_does_33 rfl ?_
  refine kk_callU (pc := 35) hX (owner := "BranchCells$Values") (v_Vnum31 X.1 _ _ _ _ (β + 5000 + 20 * t + 7) (β + 5000 + 20 * t + 8) (β + 5000 + 20 * t + 9) 12 hk.k.k7 hk.l.p0 hk.l.p1 hk.k.k8 hk.k.k9 (by decide) (nv (σ.1 32 t) - 1 - 1) (by omega) ((hk.c.ph _ (by omega)).trans (if_pos hfx))) dX7_does_35 (lw_meth q1083) ⟨q1078, q1079, q1081, q1082, q91, jj_inT q1080 rfl⟩ ⟨by decide +kernel, by decide +kernel, by show _ = some (1 : Nat); decide +kernel⟩ ⟨Nat.le_of_ble_eq_true rfl, Nat.le_of_ble_eq_true rfl, Nat.le_of_ble_eq_true rfl, Nat.le_of_ble_eq_true rfl, Nat.le_of_ble_eq_true rfl⟩ (fun q => by cases q) hk.k.k7 jc_31 rfl (jj_keq ?_) jj_kno
  refine kk_topL (σ.2 30 (12 * t + (nv (σ.1 32 t) - 1 - 1))) ((hk.c.pn _ (by omega)).trans (if_pos hfx)) ?_
  refine kk_lload (pc := 38) hX dX7_does_38 rfl ?_
  refine kk_callU (pc := 40) hX (owner := "BranchCells$Reckoner") (v_of5 X.1 _ _ _ _ 25 (σ.2 30 (12 * t + (nv (σ.1 32 t) - 1 - 1))) (σ.2 30 (12 * t + (nv (σ.1 32 t) - 1)))) dX7_does_40 (lw_meth q1100) ⟨q1086, q1088, q1098, q1099, q61, jj_inT q1087 rfl⟩ ⟨by decide +kernel, by decide +kernel, by show _ = some (2 : Nat); decide +kernel⟩ ⟨Nat.le_of_ble_eq_true rfl, Nat.le_of_ble_eq_true rfl, Nat.le_of_ble_eq_true rfl, Nat.le_of_ble_eq_true rfl, Nat.le_of_ble_eq_true rfl⟩ (fun q => by cases q) (h.ro.dd 5 (by decide)).k0 jc_8 rfl (jj_keq ?_) jj_kno
  refine kk_callV (pc := 43) hX (v_cTput X.1 _ _ _ _ h4 ht (s2_v2 hq h2 hp9.2).2 ((σ.2 30 (12 * t + (nv (σ.1 32 t) - 1 - 1))) + (σ.2 30 (12 * t + (nv (σ.1 32 t) - 1)))) (by rw [(s2_v2 hq h2 hp9.2).1]; omega)) dX7_does_43 (lw_V q1112 q1058 q1059 q88 q1060) rfl ⟨by decide +kernel, by decide +kernel, by show _ = some (1 : Nat); decide +kernel⟩ ⟨Nat.le_of_ble_eq_true rfl, Nat.le_of_ble_eq_true rfl, Nat.le_of_ble_eq_true rfl, Nat.le_of_ble_eq_true rfl, Nat.le_of_ble_eq_true rfl⟩ (fun q => by cases q) hk.k.k0 jc_29 rfl (fun _ _ I5 L5 r5 hP => ?_) jj_kno
  obtain ⟨rfl, rfl,  h5⟩ := hP
  exact kk_vret (pc := 46) hX dX7_does_46 hr ⟨Nat.le_refl _, Nat.le_refl _⟩ (⟨rfl, rfl, h5⟩)

theorem v_do5X (G : jj_G) (τ : jj_T) (I : jj_I) (L : jj_L) (r : jj_R) {β : Nat} {ss : List Nat} {e N : Nat → Nat} {ρ : jm} {σ : jm} {t : Nat} (h : cr_rel β ss e N ρ (cr_pl (σ.1 14) t (σ.1 14 t + 1)) σ τ I L r) (hv : m_inv σ) (ht : t < nv (σ.1 0 11)) (h0 : σ.1 15 t = 0) (a : Int32) (h2 : 2 ≤ nv (σ.1 32 t)) (hfy : ¬ σ.1 31 (12 * t + (nv (σ.1 32 t) - 1)) = 0) (q : Nat) (hq7 : τ q = none ∧ ¬ (1 ≤ q ∧ q ≤ 6)) (hq9 : β + 10000 ≤ q) : kk_M G yX7_does (ws_ yX7_does cX7_does 7 none) { frames := 6, cells := 1, slots := 7, locals := 134 } [jR (some 25), jR (some (β + 5000 + 20 * t)), jI a] true τ I L r jj_noP (fun a τ' I' L' r' => a = q ∧ I' q 6 = 2 ∧ cr_rel β ss e N ρ (cr_pl (σ.1 14) t (σ.1 14 t + 1)) (m_s2 t 2 σ) τ' I' L' r') := by
  refine kk_intro "BranchCells$Reckoner" (by decide) rfl (Nat.le_of_ble_eq_true rfl) ?_
  intro X hG hX hr hN hC hF hAd
  have hk := h.tk t ht
  have hT := hv.T
  have hp9 := (hv.tk t ht).po.1
  have hq := hp9.1
  have hp12 := hp9.2
  have hs9 := (hv.tk t ht).pr.2
  have hn4 : ¬ σ.1 22 t = -4 := by rw [(hv.tk t ht).pr.1]; exact nI_n4 (by have := hv.S; omega)
  have hs := h.sg _ hs9
  refine kk_aload_n (pc := 0) hX dX7_does_0 rfl ?_
  refine kk_getR (pc := 1) hX (x := some (β + 5000 + 20 * t + 7)) fl_X7_13_29 dX7_does_1 hk.k.k0 rfl hk.l.pi ?_
  refine kk_callV (pc := 4) hX (v_ctake X.1 _ _ _ _ h ht hq (by omega)) dX7_does_4 (lw_V q1074 q1075 q1076 q92 q1077) rfl ⟨by decide +kernel, by decide +kernel, by show _ = some (0 : Nat); decide +kernel⟩ ⟨Nat.le_of_ble_eq_true rfl, Nat.le_of_ble_eq_true rfl, Nat.le_of_ble_eq_true rfl, Nat.le_of_ble_eq_true rfl, Nat.le_of_ble_eq_true rfl⟩ (fun q => by cases q) hk.k.k7 jc_31 rfl (fun _ _ I3 _ _ hP => ?_) jj_kno
  obtain ⟨rfl, rfl, rfl, rfl,  h3⟩ := hP
  have hk3 := h3.tk t ht
  refine kk_istore_n (pc := 7) hX dX7_does_7 (by decide) ?_
  refine kk_aload_n (pc := 8) hX dX7_does_8 rfl ?_
  refine kk_getR (pc := 9) hX (x := some (β + 5000 + 20 * t + 7)) fl_X7_13_29 dX7_does_9 hk.k.k0 rfl hk3.l.pi ?_
  refine kk_callV (pc := 12) hX (v_ctake X.1 _ _ _ _ h3 ht (s2_v1 hq (by omega) hp9.2).2 (by rw [(s2_v1 hq (by omega) hp9.2).1]; omega)) dX7_does_12 (lw_V q1074 q1075 q1076 q92 q1077) rfl ⟨by decide +kernel, by decide +kernel, by show _ = some (0 : Nat); decide +kernel⟩ ⟨Nat.le_of_ble_eq_true rfl, Nat.le_of_ble_eq_true rfl, Nat.le_of_ble_eq_true rfl, Nat.le_of_ble_eq_true rfl, Nat.le_of_ble_eq_true rfl⟩ (fun q => by cases q) hk.k.k7 jc_31 rfl (fun _ _ I4 _ _ hP => ?_) jj_kno
  obtain ⟨rfl, rfl, rfl, rfl,  h4⟩ := hP
  rw [s2_2 hq h2 hp9.2] at h4
  have hk4 := h4.tk t ht
  refine kk_top (nI (nv (σ.1 32 t) - 1 - 1)) (by rw [(s2_v1 hq (by omega) hp9.2).1]) ?_
  refine kk_istore (pc := 15) hX dX7_does_15 (by decide) ?_
  refine kk_aload_n (pc := 17) hX dX7_does_17 rfl ?_
  refine kk_getR (pc := 18) hX (x := some (β + 5000 + 20 * t + 7)) fl_X7_13_29 dX7_does_18 hk.k.k0 rfl hk4.l.pi ?_
  refine kk_iload_n (pc := 21) hX dX7_does_21 rfl ?_
  refine kk_callU (pc := 22) hX (owner := "BranchCells$Values") (v_VnumX31 X.1 _ _ _ _ (β + 5000 + 20 * t + 7) (β + 5000 + 20 * t + 8) (β + 5000 + 20 * t + 9) 12 hk.k.k7 hk.l.p0 hk.l.p1 hk.k.k8 hk.k.k9 (by decide) (nv (σ.1 32 t) - 1) _ (by omega) ((hk.c.ph _ (by omega)).trans (if_neg hfy)) q hq7) dX7_does_22 (lw_meth q1083) ⟨q1078, q1079, q1081, q1082, q91, jj_inT q1080 rfl⟩ ⟨by decide +kernel, by decide +kernel, by show _ = some (1 : Nat); decide +kernel⟩ ⟨Nat.le_of_ble_eq_true rfl, Nat.le_of_ble_eq_true rfl, Nat.le_of_ble_eq_true rfl, Nat.le_of_ble_eq_true rfl, Nat.le_of_ble_eq_true rfl⟩ (fun _ => hF rfl) hk.k.k7 jc_31 rfl jj_knp (jj_kth ?_)
  exact kk_out (pc := 22) hX hN ⟨Nat.le_refl _, Nat.le_refl _⟩ (⟨rfl, jj_us, (cr_rel.gar h4 hq7.1 hq9 (fun b hb => jj_tn hb) (fun b hb => (jj_ua hb).trans (jj_zn hb)) (fun b hb => jj_zn hb) (fun b hb => (jj_ua hb).trans ((jj_ua hb).trans ((jj_ua hb).trans ((jj_ua hb).trans ((jj_ua hb).trans ((jj_ua hb).trans ((jj_ua hb).trans (jj_zn hb)))))))))⟩)

theorem v_do5Z (G : jj_G) (τ : jj_T) (I : jj_I) (L : jj_L) (r : jj_R) {β : Nat} {ss : List Nat} {e N : Nat → Nat} {ρ : jm} {σ : jm} {t : Nat} (h : cr_rel β ss e N ρ (cr_pl (σ.1 14) t (σ.1 14 t + 1)) σ τ I L r) (hv : m_inv σ) (ht : t < nv (σ.1 0 11)) (h0 : σ.1 15 t = 0) (a : Int32) (h2 : 2 ≤ nv (σ.1 32 t)) (hfy : σ.1 31 (12 * t + (nv (σ.1 32 t) - 1)) = 0) (hfx : ¬ σ.1 31 (12 * t + (nv (σ.1 32 t) - 1 - 1)) = 0) (q : Nat) (hq7 : τ q = none ∧ ¬ (1 ≤ q ∧ q ≤ 6)) (hq9 : β + 10000 ≤ q) : kk_M G yX7_does (ws_ yX7_does cX7_does 7 none) { frames := 6, cells := 1, slots := 7, locals := 134 } [jR (some 25), jR (some (β + 5000 + 20 * t)), jI a] true τ I L r jj_noP (fun a τ' I' L' r' => a = q ∧ I' q 6 = 2 ∧ cr_rel β ss e N ρ (cr_pl (σ.1 14) t (σ.1 14 t + 1)) (m_s2 t 2 σ) τ' I' L' r') := by
  refine kk_intro "BranchCells$Reckoner" (by decide) rfl (Nat.le_of_ble_eq_true rfl) ?_
  intro X hG hX hr hN hC hF hAd
  have hk := h.tk t ht
  have hT := hv.T
  have hp9 := (hv.tk t ht).po.1
  have hq := hp9.1
  have hp12 := hp9.2
  have hs9 := (hv.tk t ht).pr.2
  have hn4 : ¬ σ.1 22 t = -4 := by rw [(hv.tk t ht).pr.1]; exact nI_n4 (by have := hv.S; omega)
  have hs := h.sg _ hs9
  refine kk_aload_n (pc := 0) hX dX7_does_0 rfl ?_
  refine kk_getR (pc := 1) hX (x := some (β + 5000 + 20 * t + 7)) fl_X7_13_29 dX7_does_1 hk.k.k0 rfl hk.l.pi ?_
  refine kk_callV (pc := 4) hX (v_ctake X.1 _ _ _ _ h ht hq (by omega)) dX7_does_4 (lw_V q1074 q1075 q1076 q92 q1077) rfl ⟨by decide +kernel, by decide +kernel, by show _ = some (0 : Nat); decide +kernel⟩ ⟨Nat.le_of_ble_eq_true rfl, Nat.le_of_ble_eq_true rfl, Nat.le_of_ble_eq_true rfl, Nat.le_of_ble_eq_true rfl, Nat.le_of_ble_eq_true rfl⟩ (fun q => by cases q) hk.k.k7 jc_31 rfl (fun _ _ I3 _ _ hP => ?_) jj_kno
  obtain ⟨rfl, rfl, rfl, rfl,  h3⟩ := hP
  have hk3 := h3.tk t ht
  refine kk_istore_n (pc := 7) hX dX7_does_7 (by decide) ?_
  refine kk_aload_n (pc := 8) hX dX7_does_8 rfl ?_
  refine kk_getR (pc := 9) hX (x := some (β + 5000 + 20 * t + 7)) fl_X7_13_29 dX7_does_9 hk.k.k0 rfl hk3.l.pi ?_
  refine kk_callV (pc := 12) hX (v_ctake X.1 _ _ _ _ h3 ht (s2_v1 hq (by omega) hp9.2).2 (by rw [(s2_v1 hq (by omega) hp9.2).1]; omega)) dX7_does_12 (lw_V q1074 q1075 q1076 q92 q1077) rfl ⟨by decide +kernel, by decide +kernel, by show _ = some (0 : Nat); decide +kernel⟩ ⟨Nat.le_of_ble_eq_true rfl, Nat.le_of_ble_eq_true rfl, Nat.le_of_ble_eq_true rfl, Nat.le_of_ble_eq_true rfl, Nat.le_of_ble_eq_true rfl⟩ (fun q => by cases q) hk.k.k7 jc_31 rfl (fun _ _ I4 _ _ hP => ?_) jj_kno
  obtain ⟨rfl, rfl, rfl, rfl,  h4⟩ := hP
  rw [s2_2 hq h2 hp9.2] at h4
  have hk4 := h4.tk t ht
  refine kk_top (nI (nv (σ.1 32 t) - 1 - 1)) (by rw [(s2_v1 hq (by omega) hp9.2).1]) ?_
  refine kk_istore (pc := 15) hX dX7_does_15 (by decide) ?_
  refine kk_aload_n (pc := 17) hX dX7_does_17 rfl ?_
  refine kk_getR (pc := 18) hX (x := some (β + 5000 + 20 * t + 7)) fl_X7_13_29 dX7_does_18 hk.k.k0 rfl hk4.l.pi ?_
  refine kk_iload_n (pc := 21) hX dX7_does_21 rfl ?_
  refine kk_callU (pc := 22) hX (owner := "BranchCells$Values") (v_Vnum31 X.1 _ _ _ _ (β + 5000 + 20 * t + 7) (β + 5000 + 20 * t + 8) (β + 5000 + 20 * t + 9) 12 hk.k.k7 hk.l.p0 hk.l.p1 hk.k.k8 hk.k.k9 (by decide) (nv (σ.1 32 t) - 1) (by omega) ((hk.c.ph _ (by omega)).trans (if_pos hfy))) dX7_does_22 (lw_meth q1083) ⟨q1078, q1079, q1081, q1082, q91, jj_inT q1080 rfl⟩ ⟨by decide +kernel, by decide +kernel, by show _ = some (1 : Nat); decide +kernel⟩ ⟨Nat.le_of_ble_eq_true rfl, Nat.le_of_ble_eq_true rfl, Nat.le_of_ble_eq_true rfl, Nat.le_of_ble_eq_true rfl, Nat.le_of_ble_eq_true rfl⟩ (fun q => by cases q) hk.k.k7 jc_31 rfl (jj_keq ?_) jj_kno
  refine kk_topL (σ.2 30 (12 * t + (nv (σ.1 32 t) - 1))) ((hk.c.pn _ (by omega)).trans (if_pos hfy)) ?_
  refine kk_lstore (pc := 25) hX dX7_does_25 (by decide) ?_
  refine kk_aload_n (pc := 27) hX dX7_does_27 rfl ?_
  refine kk_aload_n (pc := 28) hX dX7_does_28 rfl ?_
  refine kk_aload_n (pc := 29) hX dX7_does_29 rfl ?_
  refine kk_getR (pc := 30) hX (x := some (β + 5000 + 20 * t + 7)) fl_X7_13_29 dX7_does_30 hk.k.k0 rfl hk4.l.pi ?_
  refine kk_iload (pc := 33) hX dX7_does_33 rfl ?_
  refine kk_callU (pc := 35) hX (owner := "BranchCells$Values") (v_VnumX31 X.1 _ _ _ _ (β + 5000 + 20 * t + 7) (β + 5000 + 20 * t + 8) (β + 5000 + 20 * t + 9) 12 hk.k.k7 hk.l.p0 hk.l.p1 hk.k.k8 hk.k.k9 (by decide) (nv (σ.1 32 t) - 1 - 1) _ (by omega) ((hk.c.ph _ (by omega)).trans (if_neg hfx)) q hq7) dX7_does_35 (lw_meth q1083) ⟨q1078, q1079, q1081, q1082, q91, jj_inT q1080 rfl⟩ ⟨by decide +kernel, by decide +kernel, by show _ = some (1 : Nat); decide +kernel⟩ ⟨Nat.le_of_ble_eq_true rfl, Nat.le_of_ble_eq_true rfl, Nat.le_of_ble_eq_true rfl, Nat.le_of_ble_eq_true rfl, Nat.le_of_ble_eq_true rfl⟩ (fun _ => hF rfl) hk.k.k7 jc_31 rfl jj_knp (jj_kth ?_)
  exact kk_out (pc := 35) hX hN ⟨Nat.le_refl _, Nat.le_refl _⟩ (⟨rfl, jj_us, (cr_rel.gar h4 hq7.1 hq9 (fun b hb => jj_tn hb) (fun b hb => (jj_ua hb).trans (jj_zn hb)) (fun b hb => jj_zn hb) (fun b hb => (jj_ua hb).trans ((jj_ua hb).trans ((jj_ua hb).trans ((jj_ua hb).trans ((jj_ua hb).trans ((jj_ua hb).trans ((jj_ua hb).trans (jj_zn hb)))))))))⟩)

theorem v_do6 (G : jj_G) (τ : jj_T) (I : jj_I) (L : jj_L) (r : jj_R) {β : Nat} {ss : List Nat} {e N : Nat → Nat} {ρ : jm} {σ : jm} {t : Nat} (h : cr_rel β ss e N ρ (cr_pl (σ.1 14) t (σ.1 14 t + 1)) σ τ I L r) (hv : m_inv σ) (ht : t < nv (σ.1 0 11)) (h0 : σ.1 15 t = 0) (a : Int32) (h2 : 2 ≤ nv (σ.1 32 t)) (hfy : σ.1 31 (12 * t + (nv (σ.1 32 t) - 1)) = 0) (hfx : σ.1 31 (12 * t + (nv (σ.1 32 t) - 1 - 1)) = 0) : kk_M G yX7_does (ws_ yX7_does cX7_does 7 none) { frames := 6, cells := 0, slots := 0, locals := 134 } [jR (some 26), jR (some (β + 5000 + 20 * t)), jI a] false τ I L r (fun v' τ' I' L' r' => v' = none ∧ τ' = τ ∧ cr_rel β ss e N ρ (cr_pl (σ.1 14) t (σ.1 14 t + 1)) (m_push t ((σ.2 30 (12 * t + (nv (σ.1 32 t) - 1 - 1))) - (σ.2 30 (12 * t + (nv (σ.1 32 t) - 1)))) 0 (m_s2 t 2 σ)) τ I' L' r') jj_no := by
  refine kk_intro "BranchCells$Reckoner" (by decide) rfl (Nat.le_of_ble_eq_true rfl) ?_
  intro X hG hX hr hN hC hF hAd
  have hk := h.tk t ht
  have hT := hv.T
  have hp9 := (hv.tk t ht).po.1
  have hq := hp9.1
  have hp12 := hp9.2
  have hs9 := (hv.tk t ht).pr.2
  have hn4 : ¬ σ.1 22 t = -4 := by rw [(hv.tk t ht).pr.1]; exact nI_n4 (by have := hv.S; omega)
  have hs := h.sg _ hs9
  refine kk_aload_n (pc := 0) hX dX7_does_0 rfl ?_
  refine kk_getR (pc := 1) hX (x := some (β + 5000 + 20 * t + 7)) fl_X7_13_29 dX7_does_1 hk.k.k0 rfl hk.l.pi ?_
  refine kk_callV (pc := 4) hX (v_ctake X.1 _ _ _ _ h ht hq (by omega)) dX7_does_4 (lw_V q1074 q1075 q1076 q92 q1077) rfl ⟨by decide +kernel, by decide +kernel, by show _ = some (0 : Nat); decide +kernel⟩ ⟨Nat.le_of_ble_eq_true rfl, Nat.le_of_ble_eq_true rfl, Nat.le_of_ble_eq_true rfl, Nat.le_of_ble_eq_true rfl, Nat.le_of_ble_eq_true rfl⟩ (fun q => by cases q) hk.k.k7 jc_31 rfl (fun _ _ I3 _ _ hP => ?_) jj_kno
  obtain ⟨rfl, rfl, rfl, rfl,  h3⟩ := hP
  have hk3 := h3.tk t ht
  refine kk_istore_n (pc := 7) hX dX7_does_7 (by decide) ?_
  refine kk_aload_n (pc := 8) hX dX7_does_8 rfl ?_
  refine kk_getR (pc := 9) hX (x := some (β + 5000 + 20 * t + 7)) fl_X7_13_29 dX7_does_9 hk.k.k0 rfl hk3.l.pi ?_
  refine kk_callV (pc := 12) hX (v_ctake X.1 _ _ _ _ h3 ht (s2_v1 hq (by omega) hp9.2).2 (by rw [(s2_v1 hq (by omega) hp9.2).1]; omega)) dX7_does_12 (lw_V q1074 q1075 q1076 q92 q1077) rfl ⟨by decide +kernel, by decide +kernel, by show _ = some (0 : Nat); decide +kernel⟩ ⟨Nat.le_of_ble_eq_true rfl, Nat.le_of_ble_eq_true rfl, Nat.le_of_ble_eq_true rfl, Nat.le_of_ble_eq_true rfl, Nat.le_of_ble_eq_true rfl⟩ (fun q => by cases q) hk.k.k7 jc_31 rfl (fun _ _ I4 _ _ hP => ?_) jj_kno
  obtain ⟨rfl, rfl, rfl, rfl,  h4⟩ := hP
  rw [s2_2 hq h2 hp9.2] at h4
  have hk4 := h4.tk t ht
  refine kk_top (nI (nv (σ.1 32 t) - 1 - 1)) (by rw [(s2_v1 hq (by omega) hp9.2).1]) ?_
  refine kk_istore (pc := 15) hX dX7_does_15 (by decide) ?_
  refine kk_aload_n (pc := 17) hX dX7_does_17 rfl ?_
  refine kk_getR (pc := 18) hX (x := some (β + 5000 + 20 * t + 7)) fl_X7_13_29 dX7_does_18 hk.k.k0 rfl hk4.l.pi ?_
  refine kk_iload_n (pc := 21) hX dX7_does_21 rfl ?_
  refine kk_callU (pc := 22) hX (owner := "BranchCells$Values") (v_Vnum31 X.1 _ _ _ _ (β + 5000 + 20 * t + 7) (β + 5000 + 20 * t + 8) (β + 5000 + 20 * t + 9) 12 hk.k.k7 hk.l.p0 hk.l.p1 hk.k.k8 hk.k.k9 (by decide) (nv (σ.1 32 t) - 1) (by omega) ((hk.c.ph _ (by omega)).trans (if_pos hfy))) dX7_does_22 (lw_meth q1083) ⟨q1078, q1079, q1081, q1082, q91, jj_inT q1080 rfl⟩ ⟨by decide +kernel, by decide +kernel, by show _ = some (1 : Nat); decide +kernel⟩ ⟨Nat.le_of_ble_eq_true rfl, Nat.le_of_ble_eq_true rfl, Nat.le_of_ble_eq_true rfl, Nat.le_of_ble_eq_true rfl, Nat.le_of_ble_eq_true rfl⟩ (fun q => by cases q) hk.k.k7 jc_31 rfl (jj_keq ?_) jj_kno
  refine kk_topL (σ.2 30 (12 * t + (nv (σ.1 32 t) - 1))) ((hk.c.pn _ (by omega)).trans (if_pos hfy)) ?_
  refine kk_lstore (pc := 25) hX dX7_does_25 (by decide) ?_
  refine kk_aload_n (pc := 27) hX dX7_does_27 rfl ?_
  refine kk_aload_n (pc := 28) hX dX7_does_28 rfl ?_
  refine kk_aload_n (pc := 29) hX dX7_does_29 rfl ?_
  refine kk_getR (pc := 30) hX (x := some (β + 5000 + 20 * t + 7)) fl_X7_13_29 dX7_does_30 hk.k.k0 rfl hk4.l.pi ?_
  refine kk_iload (pc := 33) hX dX7_does_33 rfl ?_
  refine kk_callU (pc := 35) hX (owner := "BranchCells$Values") (v_Vnum31 X.1 _ _ _ _ (β + 5000 + 20 * t + 7) (β + 5000 + 20 * t + 8) (β + 5000 + 20 * t + 9) 12 hk.k.k7 hk.l.p0 hk.l.p1 hk.k.k8 hk.k.k9 (by decide) (nv (σ.1 32 t) - 1 - 1) (by omega) ((hk.c.ph _ (by omega)).trans (if_pos hfx))) dX7_does_35 (lw_meth q1083) ⟨q1078, q1079, q1081, q1082, q91, jj_inT q1080 rfl⟩ ⟨by decide +kernel, by decide +kernel, by show _ = some (1 : Nat); decide +kernel⟩ ⟨Nat.le_of_ble_eq_true rfl, Nat.le_of_ble_eq_true rfl, Nat.le_of_ble_eq_true rfl, Nat.le_of_ble_eq_true rfl, Nat.le_of_ble_eq_true rfl⟩ (fun q => by cases q) hk.k.k7 jc_31 rfl (jj_keq ?_) jj_kno
  refine kk_topL (σ.2 30 (12 * t + (nv (σ.1 32 t) - 1 - 1))) ((hk.c.pn _ (by omega)).trans (if_pos hfx)) ?_
  refine kk_lload (pc := 38) hX dX7_does_38 rfl ?_
  refine kk_callU (pc := 40) hX (owner := "BranchCells$Reckoner") (v_of6 X.1 _ _ _ _ 26 (σ.2 30 (12 * t + (nv (σ.1 32 t) - 1 - 1))) (σ.2 30 (12 * t + (nv (σ.1 32 t) - 1)))) dX7_does_40 (lw_meth q1103) ⟨q1086, q1088, q1101, q1102, q62, jj_inT q1087 rfl⟩ ⟨by decide +kernel, by decide +kernel, by show _ = some (2 : Nat); decide +kernel⟩ ⟨Nat.le_of_ble_eq_true rfl, Nat.le_of_ble_eq_true rfl, Nat.le_of_ble_eq_true rfl, Nat.le_of_ble_eq_true rfl, Nat.le_of_ble_eq_true rfl⟩ (fun q => by cases q) (h.ro.dd 6 (by decide)).k0 jc_9 rfl (jj_keq ?_) jj_kno
  refine kk_callV (pc := 43) hX (v_cTput X.1 _ _ _ _ h4 ht (s2_v2 hq h2 hp9.2).2 ((σ.2 30 (12 * t + (nv (σ.1 32 t) - 1 - 1))) - (σ.2 30 (12 * t + (nv (σ.1 32 t) - 1)))) (by rw [(s2_v2 hq h2 hp9.2).1]; omega)) dX7_does_43 (lw_V q1112 q1058 q1059 q88 q1060) rfl ⟨by decide +kernel, by decide +kernel, by show _ = some (1 : Nat); decide +kernel⟩ ⟨Nat.le_of_ble_eq_true rfl, Nat.le_of_ble_eq_true rfl, Nat.le_of_ble_eq_true rfl, Nat.le_of_ble_eq_true rfl, Nat.le_of_ble_eq_true rfl⟩ (fun q => by cases q) hk.k.k0 jc_29 rfl (fun _ _ I5 L5 r5 hP => ?_) jj_kno
  obtain ⟨rfl, rfl,  h5⟩ := hP
  exact kk_vret (pc := 46) hX dX7_does_46 hr ⟨Nat.le_refl _, Nat.le_refl _⟩ (⟨rfl, rfl, h5⟩)

theorem v_do6X (G : jj_G) (τ : jj_T) (I : jj_I) (L : jj_L) (r : jj_R) {β : Nat} {ss : List Nat} {e N : Nat → Nat} {ρ : jm} {σ : jm} {t : Nat} (h : cr_rel β ss e N ρ (cr_pl (σ.1 14) t (σ.1 14 t + 1)) σ τ I L r) (hv : m_inv σ) (ht : t < nv (σ.1 0 11)) (h0 : σ.1 15 t = 0) (a : Int32) (h2 : 2 ≤ nv (σ.1 32 t)) (hfy : ¬ σ.1 31 (12 * t + (nv (σ.1 32 t) - 1)) = 0) (q : Nat) (hq7 : τ q = none ∧ ¬ (1 ≤ q ∧ q ≤ 6)) (hq9 : β + 10000 ≤ q) : kk_M G yX7_does (ws_ yX7_does cX7_does 7 none) { frames := 6, cells := 1, slots := 7, locals := 134 } [jR (some 26), jR (some (β + 5000 + 20 * t)), jI a] true τ I L r jj_noP (fun a τ' I' L' r' => a = q ∧ I' q 6 = 2 ∧ cr_rel β ss e N ρ (cr_pl (σ.1 14) t (σ.1 14 t + 1)) (m_s2 t 2 σ) τ' I' L' r') := by
  refine kk_intro "BranchCells$Reckoner" (by decide) rfl (Nat.le_of_ble_eq_true rfl) ?_
  intro X hG hX hr hN hC hF hAd
  have hk := h.tk t ht
  have hT := hv.T
  have hp9 := (hv.tk t ht).po.1
  have hq := hp9.1
  have hp12 := hp9.2
  have hs9 := (hv.tk t ht).pr.2
  have hn4 : ¬ σ.1 22 t = -4 := by rw [(hv.tk t ht).pr.1]; exact nI_n4 (by have := hv.S; omega)
  have hs := h.sg _ hs9
  refine kk_aload_n (pc := 0) hX dX7_does_0 rfl ?_
  refine kk_getR (pc := 1) hX (x := some (β + 5000 + 20 * t + 7)) fl_X7_13_29 dX7_does_1 hk.k.k0 rfl hk.l.pi ?_
  refine kk_callV (pc := 4) hX (v_ctake X.1 _ _ _ _ h ht hq (by omega)) dX7_does_4 (lw_V q1074 q1075 q1076 q92 q1077) rfl ⟨by decide +kernel, by decide +kernel, by show _ = some (0 : Nat); decide +kernel⟩ ⟨Nat.le_of_ble_eq_true rfl, Nat.le_of_ble_eq_true rfl, Nat.le_of_ble_eq_true rfl, Nat.le_of_ble_eq_true rfl, Nat.le_of_ble_eq_true rfl⟩ (fun q => by cases q) hk.k.k7 jc_31 rfl (fun _ _ I3 _ _ hP => ?_) jj_kno
  obtain ⟨rfl, rfl, rfl, rfl,  h3⟩ := hP
  have hk3 := h3.tk t ht
  refine kk_istore_n (pc := 7) hX dX7_does_7 (by decide) ?_
  refine kk_aload_n (pc := 8) hX dX7_does_8 rfl ?_
  refine kk_getR (pc := 9) hX (x := some (β + 5000 + 20 * t + 7)) fl_X7_13_29 dX7_does_9 hk.k.k0 rfl hk3.l.pi ?_
  refine kk_callV (pc := 12) hX (v_ctake X.1 _ _ _ _ h3 ht (s2_v1 hq (by omega) hp9.2).2 (by rw [(s2_v1 hq (by omega) hp9.2).1]; omega)) dX7_does_12 (lw_V q1074 q1075 q1076 q92 q1077) rfl ⟨by decide +kernel, by decide +kernel, by show _ = some (0 : Nat); decide +kernel⟩ ⟨Nat.le_of_ble_eq_true rfl, Nat.le_of_ble_eq_true rfl, Nat.le_of_ble_eq_true rfl, Nat.le_of_ble_eq_true rfl, Nat.le_of_ble_eq_true rfl⟩ (fun q => by cases q) hk.k.k7 jc_31 rfl (fun _ _ I4 _ _ hP => ?_) jj_kno
  obtain ⟨rfl, rfl, rfl, rfl,  h4⟩ := hP
  rw [s2_2 hq h2 hp9.2] at h4
  have hk4 := h4.tk t ht
  refine kk_top (nI (nv (σ.1 32 t) - 1 - 1)) (by rw [(s2_v1 hq (by omega) hp9.2).1]) ?_
  refine kk_istore (pc := 15) hX dX7_does_15 (by decide) ?_
  refine kk_aload_n (pc := 17) hX dX7_does_17 rfl ?_
  refine kk_getR (pc := 18) hX (x := some (β + 5000 + 20 * t + 7)) fl_X7_13_29 dX7_does_18 hk.k.k0 rfl hk4.l.pi ?_
  refine kk_iload_n (pc := 21) hX dX7_does_21 rfl ?_
  refine kk_callU (pc := 22) hX (owner := "BranchCells$Values") (v_VnumX31 X.1 _ _ _ _ (β + 5000 + 20 * t + 7) (β + 5000 + 20 * t + 8) (β + 5000 + 20 * t + 9) 12 hk.k.k7 hk.l.p0 hk.l.p1 hk.k.k8 hk.k.k9 (by decide) (nv (σ.1 32 t) - 1) _ (by omega) ((hk.c.ph _ (by omega)).trans (if_neg hfy)) q hq7) dX7_does_22 (lw_meth q1083) ⟨q1078, q1079, q1081, q1082, q91, jj_inT q1080 rfl⟩ ⟨by decide +kernel, by decide +kernel, by show _ = some (1 : Nat); decide +kernel⟩ ⟨Nat.le_of_ble_eq_true rfl, Nat.le_of_ble_eq_true rfl, Nat.le_of_ble_eq_true rfl, Nat.le_of_ble_eq_true rfl, Nat.le_of_ble_eq_true rfl⟩ (fun _ => hF rfl) hk.k.k7 jc_31 rfl jj_knp (jj_kth ?_)
  exact kk_out (pc := 22) hX hN ⟨Nat.le_refl _, Nat.le_refl _⟩ (⟨rfl, jj_us, (cr_rel.gar h4 hq7.1 hq9 (fun b hb => jj_tn hb) (fun b hb => (jj_ua hb).trans (jj_zn hb)) (fun b hb => jj_zn hb) (fun b hb => (jj_ua hb).trans ((jj_ua hb).trans ((jj_ua hb).trans ((jj_ua hb).trans ((jj_ua hb).trans ((jj_ua hb).trans ((jj_ua hb).trans (jj_zn hb)))))))))⟩)

theorem v_do6Z (G : jj_G) (τ : jj_T) (I : jj_I) (L : jj_L) (r : jj_R) {β : Nat} {ss : List Nat} {e N : Nat → Nat} {ρ : jm} {σ : jm} {t : Nat} (h : cr_rel β ss e N ρ (cr_pl (σ.1 14) t (σ.1 14 t + 1)) σ τ I L r) (hv : m_inv σ) (ht : t < nv (σ.1 0 11)) (h0 : σ.1 15 t = 0) (a : Int32) (h2 : 2 ≤ nv (σ.1 32 t)) (hfy : σ.1 31 (12 * t + (nv (σ.1 32 t) - 1)) = 0) (hfx : ¬ σ.1 31 (12 * t + (nv (σ.1 32 t) - 1 - 1)) = 0) (q : Nat) (hq7 : τ q = none ∧ ¬ (1 ≤ q ∧ q ≤ 6)) (hq9 : β + 10000 ≤ q) : kk_M G yX7_does (ws_ yX7_does cX7_does 7 none) { frames := 6, cells := 1, slots := 7, locals := 134 } [jR (some 26), jR (some (β + 5000 + 20 * t)), jI a] true τ I L r jj_noP (fun a τ' I' L' r' => a = q ∧ I' q 6 = 2 ∧ cr_rel β ss e N ρ (cr_pl (σ.1 14) t (σ.1 14 t + 1)) (m_s2 t 2 σ) τ' I' L' r') := by
  refine kk_intro "BranchCells$Reckoner" (by decide) rfl (Nat.le_of_ble_eq_true rfl) ?_
  intro X hG hX hr hN hC hF hAd
  have hk := h.tk t ht
  have hT := hv.T
  have hp9 := (hv.tk t ht).po.1
  have hq := hp9.1
  have hp12 := hp9.2
  have hs9 := (hv.tk t ht).pr.2
  have hn4 : ¬ σ.1 22 t = -4 := by rw [(hv.tk t ht).pr.1]; exact nI_n4 (by have := hv.S; omega)
  have hs := h.sg _ hs9
  refine kk_aload_n (pc := 0) hX dX7_does_0 rfl ?_
  refine kk_getR (pc := 1) hX (x := some (β + 5000 + 20 * t + 7)) fl_X7_13_29 dX7_does_1 hk.k.k0 rfl hk.l.pi ?_
  refine kk_callV (pc := 4) hX (v_ctake X.1 _ _ _ _ h ht hq (by omega)) dX7_does_4 (lw_V q1074 q1075 q1076 q92 q1077) rfl ⟨by decide +kernel, by decide +kernel, by show _ = some (0 : Nat); decide +kernel⟩ ⟨Nat.le_of_ble_eq_true rfl, Nat.le_of_ble_eq_true rfl, Nat.le_of_ble_eq_true rfl, Nat.le_of_ble_eq_true rfl, Nat.le_of_ble_eq_true rfl⟩ (fun q => by cases q) hk.k.k7 jc_31 rfl (fun _ _ I3 _ _ hP => ?_) jj_kno
  obtain ⟨rfl, rfl, rfl, rfl,  h3⟩ := hP
  have hk3 := h3.tk t ht
  refine kk_istore_n (pc := 7) hX dX7_does_7 (by decide) ?_
  refine kk_aload_n (pc := 8) hX dX7_does_8 rfl ?_
  refine kk_getR (pc := 9) hX (x := some (β + 5000 + 20 * t + 7)) fl_X7_13_29 dX7_does_9 hk.k.k0 rfl hk3.l.pi ?_
  refine kk_callV (pc := 12) hX (v_ctake X.1 _ _ _ _ h3 ht (s2_v1 hq (by omega) hp9.2).2 (by rw [(s2_v1 hq (by omega) hp9.2).1]; omega)) dX7_does_12 (lw_V q1074 q1075 q1076 q92 q1077) rfl ⟨by decide +kernel, by decide +kernel, by show _ = some (0 : Nat); decide +kernel⟩ ⟨Nat.le_of_ble_eq_true rfl, Nat.le_of_ble_eq_true rfl, Nat.le_of_ble_eq_true rfl, Nat.le_of_ble_eq_true rfl, Nat.le_of_ble_eq_true rfl⟩ (fun q => by cases q) hk.k.k7 jc_31 rfl (fun _ _ I4 _ _ hP => ?_) jj_kno
  obtain ⟨rfl, rfl, rfl, rfl,  h4⟩ := hP
  rw [s2_2 hq h2 hp9.2] at h4
  have hk4 := h4.tk t ht
  refine kk_top (nI (nv (σ.1 32 t) - 1 - 1)) (by rw [(s2_v1 hq (by omega) hp9.2).1]) ?_
  refine kk_istore (pc := 15) hX dX7_does_15 (by decide) ?_
  refine kk_aload_n (pc := 17) hX dX7_does_17 rfl ?_
  refine kk_getR (pc := 18) hX (x := some (β + 5000 + 20 * t + 7)) fl_X7_13_29 dX7_does_18 hk.k.k0 rfl hk4.l.pi ?_
  refine kk_iload_n (pc := 21) hX dX7_does_21 rfl ?_
  refine kk_callU (pc := 22) hX (owner := "BranchCells$Values") (v_Vnum31 X.1 _ _ _ _ (β + 5000 + 20 * t + 7) (β + 5000 + 20 * t + 8) (β + 5000 + 20 * t + 9) 12 hk.k.k7 hk.l.p0 hk.l.p1 hk.k.k8 hk.k.k9 (by decide) (nv (σ.1 32 t) - 1) (by omega) ((hk.c.ph _ (by omega)).trans (if_pos hfy))) dX7_does_22 (lw_meth q1083) ⟨q1078, q1079, q1081, q1082, q91, jj_inT q1080 rfl⟩ ⟨by decide +kernel, by decide +kernel, by show _ = some (1 : Nat); decide +kernel⟩ ⟨Nat.le_of_ble_eq_true rfl, Nat.le_of_ble_eq_true rfl, Nat.le_of_ble_eq_true rfl, Nat.le_of_ble_eq_true rfl, Nat.le_of_ble_eq_true rfl⟩ (fun q => by cases q) hk.k.k7 jc_31 rfl (jj_keq ?_) jj_kno
  refine kk_topL (σ.2 30 (12 * t + (nv (σ.1 32 t) - 1))) ((hk.c.pn _ (by omega)).trans (if_pos hfy)) ?_
  refine kk_lstore (pc := 25) hX dX7_does_25 (by decide) ?_
  refine kk_aload_n (pc := 27) hX dX7_does_27 rfl ?_
  refine kk_aload_n (pc := 28) hX dX7_does_28 rfl ?_
  refine kk_aload_n (pc := 29) hX dX7_does_29 rfl ?_
  refine kk_getR (pc := 30) hX (x := some (β + 5000 + 20 * t + 7)) fl_X7_13_29 dX7_does_30 hk.k.k0 rfl hk4.l.pi ?_
  refine kk_iload (pc := 33) hX dX7_does_33 rfl ?_
  refine kk_callU (pc := 35) hX (owner := "BranchCells$Values") (v_VnumX31 X.1 _ _ _ _ (β + 5000 + 20 * t + 7) (β + 5000 + 20 * t + 8) (β + 5000 + 20 * t + 9) 12 hk.k.k7 hk.l.p0 hk.l.p1 hk.k.k8 hk.k.k9 (by decide) (nv (σ.1 32 t) - 1 - 1) _ (by omega) ((hk.c.ph _ (by omega)).trans (if_neg hfx)) q hq7) dX7_does_35 (lw_meth q1083) ⟨q1078, q1079, q1081, q1082, q91, jj_inT q1080 rfl⟩ ⟨by decide +kernel, by decide +kernel, by show _ = some (1 : Nat); decide +kernel⟩ ⟨Nat.le_of_ble_eq_true rfl, Nat.le_of_ble_eq_true rfl, Nat.le_of_ble_eq_true rfl, Nat.le_of_ble_eq_true rfl, Nat.le_of_ble_eq_true rfl⟩ (fun _ => hF rfl) hk.k.k7 jc_31 rfl jj_knp (jj_kth ?_)
  exact kk_out (pc := 35) hX hN ⟨Nat.le_refl _, Nat.le_refl _⟩ (⟨rfl, jj_us, (cr_rel.gar h4 hq7.1 hq9 (fun b hb => jj_tn hb) (fun b hb => (jj_ua hb).trans (jj_zn hb)) (fun b hb => jj_zn hb) (fun b hb => (jj_ua hb).trans ((jj_ua hb).trans ((jj_ua hb).trans ((jj_ua hb).trans ((jj_ua hb).trans ((jj_ua hb).trans ((jj_ua hb).trans (jj_zn hb)))))))))⟩)

theorem v_do7 (G : jj_G) (τ : jj_T) (I : jj_I) (L : jj_L) (r : jj_R) {β : Nat} {ss : List Nat} {e N : Nat → Nat} {ρ : jm} {σ : jm} {t : Nat} (h : cr_rel β ss e N ρ (cr_pl (σ.1 14) t (σ.1 14 t + 1)) σ τ I L r) (hv : m_inv σ) (ht : t < nv (σ.1 0 11)) (h0 : σ.1 15 t = 0) (a : Int32) (h2 : 2 ≤ nv (σ.1 32 t)) (hfy : σ.1 31 (12 * t + (nv (σ.1 32 t) - 1)) = 0) (hfx : σ.1 31 (12 * t + (nv (σ.1 32 t) - 1 - 1)) = 0) : kk_M G yX7_does (ws_ yX7_does cX7_does 7 none) { frames := 6, cells := 0, slots := 0, locals := 134 } [jR (some 27), jR (some (β + 5000 + 20 * t)), jI a] false τ I L r (fun v' τ' I' L' r' => v' = none ∧ τ' = τ ∧ cr_rel β ss e N ρ (cr_pl (σ.1 14) t (σ.1 14 t + 1)) (m_push t ((σ.2 30 (12 * t + (nv (σ.1 32 t) - 1 - 1))) * (σ.2 30 (12 * t + (nv (σ.1 32 t) - 1)))) 0 (m_s2 t 2 σ)) τ I' L' r') jj_no := by
  refine kk_intro "BranchCells$Reckoner" (by decide) rfl (Nat.le_of_ble_eq_true rfl) ?_
  intro X hG hX hr hN hC hF hAd
  have hk := h.tk t ht
  have hT := hv.T
  have hp9 := (hv.tk t ht).po.1
  have hq := hp9.1
  have hp12 := hp9.2
  have hs9 := (hv.tk t ht).pr.2
  have hn4 : ¬ σ.1 22 t = -4 := by rw [(hv.tk t ht).pr.1]; exact nI_n4 (by have := hv.S; omega)
  have hs := h.sg _ hs9
  refine kk_aload_n (pc := 0) hX dX7_does_0 rfl ?_
  refine kk_getR (pc := 1) hX (x := some (β + 5000 + 20 * t + 7)) fl_X7_13_29 dX7_does_1 hk.k.k0 rfl hk.l.pi ?_
  refine kk_callV (pc := 4) hX (v_ctake X.1 _ _ _ _ h ht hq (by omega)) dX7_does_4 (lw_V q1074 q1075 q1076 q92 q1077) rfl ⟨by decide +kernel, by decide +kernel, by show _ = some (0 : Nat); decide +kernel⟩ ⟨Nat.le_of_ble_eq_true rfl, Nat.le_of_ble_eq_true rfl, Nat.le_of_ble_eq_true rfl, Nat.le_of_ble_eq_true rfl, Nat.le_of_ble_eq_true rfl⟩ (fun q => by cases q) hk.k.k7 jc_31 rfl (fun _ _ I3 _ _ hP => ?_) jj_kno
  obtain ⟨rfl, rfl, rfl, rfl,  h3⟩ := hP
  have hk3 := h3.tk t ht
  refine kk_istore_n (pc := 7) hX dX7_does_7 (by decide) ?_
  refine kk_aload_n (pc := 8) hX dX7_does_8 rfl ?_
  refine kk_getR (pc := 9) hX (x := some (β + 5000 + 20 * t + 7)) fl_X7_13_29 dX7_does_9 hk.k.k0 rfl hk3.l.pi ?_
  refine kk_callV (pc := 12) hX (v_ctake X.1 _ _ _ _ h3 ht (s2_v1 hq (by omega) hp9.2).2 (by rw [(s2_v1 hq (by omega) hp9.2).1]; omega)) dX7_does_12 (lw_V q1074 q1075 q1076 q92 q1077) rfl ⟨by decide +kernel, by decide +kernel, by show _ = some (0 : Nat); decide +kernel⟩ ⟨Nat.le_of_ble_eq_true rfl, Nat.le_of_ble_eq_true rfl, Nat.le_of_ble_eq_true rfl, Nat.le_of_ble_eq_true rfl, Nat.le_of_ble_eq_true rfl⟩ (fun q => by cases q) hk.k.k7 jc_31 rfl (fun _ _ I4 _ _ hP => ?_) jj_kno
  obtain ⟨rfl, rfl, rfl, rfl,  h4⟩ := hP
  rw [s2_2 hq h2 hp9.2] at h4
  have hk4 := h4.tk t ht
  refine kk_top (nI (nv (σ.1 32 t) - 1 - 1)) (by rw [(s2_v1 hq (by omega) hp9.2).1]) ?_
  refine kk_istore (pc := 15) hX dX7_does_15 (by decide) ?_
  refine kk_aload_n (pc := 17) hX dX7_does_17 rfl ?_
  refine kk_getR (pc := 18) hX (x := some (β + 5000 + 20 * t + 7)) fl_X7_13_29 dX7_does_18 hk.k.k0 rfl hk4.l.pi ?_
  refine kk_iload_n (pc := 21) hX dX7_does_21 rfl ?_
  refine kk_callU (pc := 22) hX (owner := "BranchCells$Values") (v_Vnum31 X.1 _ _ _ _ (β + 5000 + 20 * t + 7) (β + 5000 + 20 * t + 8) (β + 5000 + 20 * t + 9) 12 hk.k.k7 hk.l.p0 hk.l.p1 hk.k.k8 hk.k.k9 (by decide) (nv (σ.1 32 t) - 1) (by omega) ((hk.c.ph _ (by omega)).trans (if_pos hfy))) dX7_does_22 (lw_meth q1083) ⟨q1078, q1079, q1081, q1082, q91, jj_inT q1080 rfl⟩ ⟨by decide +kernel, by decide +kernel, by show _ = some (1 : Nat); decide +kernel⟩ ⟨Nat.le_of_ble_eq_true rfl, Nat.le_of_ble_eq_true rfl, Nat.le_of_ble_eq_true rfl, Nat.le_of_ble_eq_true rfl, Nat.le_of_ble_eq_true rfl⟩ (fun q => by cases q) hk.k.k7 jc_31 rfl (jj_keq ?_) jj_kno
  refine kk_topL (σ.2 30 (12 * t + (nv (σ.1 32 t) - 1))) ((hk.c.pn _ (by omega)).trans (if_pos hfy)) ?_
  refine kk_lstore (pc := 25) hX dX7_does_25 (by decide) ?_
  refine kk_aload_n (pc := 27) hX dX7_does_27 rfl ?_
  refine kk_aload_n (pc := 28) hX dX7_does_28 rfl ?_
  refine kk_aload_n (pc := 29) hX dX7_does_29 rfl ?_
  refine kk_getR (pc := 30) hX (x := some (β + 5000 + 20 * t + 7)) fl_X7_13_29 dX7_does_30 hk.k.k0 rfl hk4.l.pi ?_
  refine kk_iload (pc := 33) hX dX7_does_33 rfl ?_
  refine kk_callU (pc := 35) hX (owner := "BranchCells$Values") (v_Vnum31 X.1 _ _ _ _ (β + 5000 + 20 * t + 7) (β + 5000 + 20 * t + 8) (β + 5000 + 20 * t + 9) 12 hk.k.k7 hk.l.p0 hk.l.p1 hk.k.k8 hk.k.k9 (by decide) (nv (σ.1 32 t) - 1 - 1) (by omega) ((hk.c.ph _ (by omega)).trans (if_pos hfx))) dX7_does_35 (lw_meth q1083) ⟨q1078, q1079, q1081, q1082, q91, jj_inT q1080 rfl⟩ ⟨by decide +kernel, by decide +kernel, by show _ = some (1 : Nat); decide +kernel⟩ ⟨Nat.le_of_ble_eq_true rfl, Nat.le_of_ble_eq_true rfl, Nat.le_of_ble_eq_true rfl, Nat.le_of_ble_eq_true rfl, Nat.le_of_ble_eq_true rfl⟩ (fun q => by cases q) hk.k.k7 jc_31 rfl (jj_keq ?_) jj_kno
  refine kk_topL (σ.2 30 (12 * t + (nv (σ.1 32 t) - 1 - 1))) ((hk.c.pn _ (by omega)).trans (if_pos hfx)) ?_
  refine kk_lload (pc := 38) hX dX7_does_38 rfl ?_
  refine kk_callU (pc := 40) hX (owner := "BranchCells$Reckoner") (v_of7 X.1 _ _ _ _ 27 (σ.2 30 (12 * t + (nv (σ.1 32 t) - 1 - 1))) (σ.2 30 (12 * t + (nv (σ.1 32 t) - 1)))) dX7_does_40 (lw_meth q1106) ⟨q1086, q1088, q1104, q1105, q63, jj_inT q1087 rfl⟩ ⟨by decide +kernel, by decide +kernel, by show _ = some (2 : Nat); decide +kernel⟩ ⟨Nat.le_of_ble_eq_true rfl, Nat.le_of_ble_eq_true rfl, Nat.le_of_ble_eq_true rfl, Nat.le_of_ble_eq_true rfl, Nat.le_of_ble_eq_true rfl⟩ (fun q => by cases q) (h.ro.dd 7 (by decide)).k0 jc_10 rfl (jj_keq ?_) jj_kno
  refine kk_callV (pc := 43) hX (v_cTput X.1 _ _ _ _ h4 ht (s2_v2 hq h2 hp9.2).2 ((σ.2 30 (12 * t + (nv (σ.1 32 t) - 1 - 1))) * (σ.2 30 (12 * t + (nv (σ.1 32 t) - 1)))) (by rw [(s2_v2 hq h2 hp9.2).1]; omega)) dX7_does_43 (lw_V q1112 q1058 q1059 q88 q1060) rfl ⟨by decide +kernel, by decide +kernel, by show _ = some (1 : Nat); decide +kernel⟩ ⟨Nat.le_of_ble_eq_true rfl, Nat.le_of_ble_eq_true rfl, Nat.le_of_ble_eq_true rfl, Nat.le_of_ble_eq_true rfl, Nat.le_of_ble_eq_true rfl⟩ (fun q => by cases q) hk.k.k0 jc_29 rfl (fun _ _ I5 L5 r5 hP => ?_) jj_kno
  obtain ⟨rfl, rfl,  h5⟩ := hP
  exact kk_vret (pc := 46) hX dX7_does_46 hr ⟨Nat.le_refl _, Nat.le_refl _⟩ (⟨rfl, rfl, h5⟩)

theorem v_do7X (G : jj_G) (τ : jj_T) (I : jj_I) (L : jj_L) (r : jj_R) {β : Nat} {ss : List Nat} {e N : Nat → Nat} {ρ : jm} {σ : jm} {t : Nat} (h : cr_rel β ss e N ρ (cr_pl (σ.1 14) t (σ.1 14 t + 1)) σ τ I L r) (hv : m_inv σ) (ht : t < nv (σ.1 0 11)) (h0 : σ.1 15 t = 0) (a : Int32) (h2 : 2 ≤ nv (σ.1 32 t)) (hfy : ¬ σ.1 31 (12 * t + (nv (σ.1 32 t) - 1)) = 0) (q : Nat) (hq7 : τ q = none ∧ ¬ (1 ≤ q ∧ q ≤ 6)) (hq9 : β + 10000 ≤ q) : kk_M G yX7_does (ws_ yX7_does cX7_does 7 none) { frames := 6, cells := 1, slots := 7, locals := 134 } [jR (some 27), jR (some (β + 5000 + 20 * t)), jI a] true τ I L r jj_noP (fun a τ' I' L' r' => a = q ∧ I' q 6 = 2 ∧ cr_rel β ss e N ρ (cr_pl (σ.1 14) t (σ.1 14 t + 1)) (m_s2 t 2 σ) τ' I' L' r') := by
  refine kk_intro "BranchCells$Reckoner" (by decide) rfl (Nat.le_of_ble_eq_true rfl) ?_
  intro X hG hX hr hN hC hF hAd
  have hk := h.tk t ht
  have hT := hv.T
  have hp9 := (hv.tk t ht).po.1
  have hq := hp9.1
  have hp12 := hp9.2
  have hs9 := (hv.tk t ht).pr.2
  have hn4 : ¬ σ.1 22 t = -4 := by rw [(hv.tk t ht).pr.1]; exact nI_n4 (by have := hv.S; omega)
  have hs := h.sg _ hs9
  refine kk_aload_n (pc := 0) hX dX7_does_0 rfl ?_
  refine kk_getR (pc := 1) hX (x := some (β + 5000 + 20 * t + 7)) fl_X7_13_29 dX7_does_1 hk.k.k0 rfl hk.l.pi ?_
  refine kk_callV (pc := 4) hX (v_ctake X.1 _ _ _ _ h ht hq (by omega)) dX7_does_4 (lw_V q1074 q1075 q1076 q92 q1077) rfl ⟨by decide +kernel, by decide +kernel, by show _ = some (0 : Nat); decide +kernel⟩ ⟨Nat.le_of_ble_eq_true rfl, Nat.le_of_ble_eq_true rfl, Nat.le_of_ble_eq_true rfl, Nat.le_of_ble_eq_true rfl, Nat.le_of_ble_eq_true rfl⟩ (fun q => by cases q) hk.k.k7 jc_31 rfl (fun _ _ I3 _ _ hP => ?_) jj_kno
  obtain ⟨rfl, rfl, rfl, rfl,  h3⟩ := hP
  have hk3 := h3.tk t ht
  refine kk_istore_n (pc := 7) hX dX7_does_7 (by decide) ?_
  refine kk_aload_n (pc := 8) hX dX7_does_8 rfl ?_
  refine kk_getR (pc := 9) hX (x := some (β + 5000 + 20 * t + 7)) fl_X7_13_29 dX7_does_9 hk.k.k0 rfl hk3.l.pi ?_
  refine kk_callV (pc := 12) hX (v_ctake X.1 _ _ _ _ h3 ht (s2_v1 hq (by omega) hp9.2).2 (by rw [(s2_v1 hq (by omega) hp9.2).1]; omega)) dX7_does_12 (lw_V q1074 q1075 q1076 q92 q1077) rfl ⟨by decide +kernel, by decide +kernel, by show _ = some (0 : Nat); decide +kernel⟩ ⟨Nat.le_of_ble_eq_true rfl, Nat.le_of_ble_eq_true rfl, Nat.le_of_ble_eq_true rfl, Nat.le_of_ble_eq_true rfl, Nat.le_of_ble_eq_true rfl⟩ (fun q => by cases q) hk.k.k7 jc_31 rfl (fun _ _ I4 _ _ hP => ?_) jj_kno
  obtain ⟨rfl, rfl, rfl, rfl,  h4⟩ := hP
  rw [s2_2 hq h2 hp9.2] at h4
  have hk4 := h4.tk t ht
  refine kk_top (nI (nv (σ.1 32 t) - 1 - 1)) (by rw [(s2_v1 hq (by omega) hp9.2).1]) ?_
  refine kk_istore (pc := 15) hX dX7_does_15 (by decide) ?_
  refine kk_aload_n (pc := 17) hX dX7_does_17 rfl ?_
  refine kk_getR (pc := 18) hX (x := some (β + 5000 + 20 * t + 7)) fl_X7_13_29 dX7_does_18 hk.k.k0 rfl hk4.l.pi ?_
  refine kk_iload_n (pc := 21) hX dX7_does_21 rfl ?_
  refine kk_callU (pc := 22) hX (owner := "BranchCells$Values") (v_VnumX31 X.1 _ _ _ _ (β + 5000 + 20 * t + 7) (β + 5000 + 20 * t + 8) (β + 5000 + 20 * t + 9) 12 hk.k.k7 hk.l.p0 hk.l.p1 hk.k.k8 hk.k.k9 (by decide) (nv (σ.1 32 t) - 1) _ (by omega) ((hk.c.ph _ (by omega)).trans (if_neg hfy)) q hq7) dX7_does_22 (lw_meth q1083) ⟨q1078, q1079, q1081, q1082, q91, jj_inT q1080 rfl⟩ ⟨by decide +kernel, by decide +kernel, by show _ = some (1 : Nat); decide +kernel⟩ ⟨Nat.le_of_ble_eq_true rfl, Nat.le_of_ble_eq_true rfl, Nat.le_of_ble_eq_true rfl, Nat.le_of_ble_eq_true rfl, Nat.le_of_ble_eq_true rfl⟩ (fun _ => hF rfl) hk.k.k7 jc_31 rfl jj_knp (jj_kth ?_)
  exact kk_out (pc := 22) hX hN ⟨Nat.le_refl _, Nat.le_refl _⟩ (⟨rfl, jj_us, (cr_rel.gar h4 hq7.1 hq9 (fun b hb => jj_tn hb) (fun b hb => (jj_ua hb).trans (jj_zn hb)) (fun b hb => jj_zn hb) (fun b hb => (jj_ua hb).trans ((jj_ua hb).trans ((jj_ua hb).trans ((jj_ua hb).trans ((jj_ua hb).trans ((jj_ua hb).trans ((jj_ua hb).trans (jj_zn hb)))))))))⟩)

theorem v_do7Z (G : jj_G) (τ : jj_T) (I : jj_I) (L : jj_L) (r : jj_R) {β : Nat} {ss : List Nat} {e N : Nat → Nat} {ρ : jm} {σ : jm} {t : Nat} (h : cr_rel β ss e N ρ (cr_pl (σ.1 14) t (σ.1 14 t + 1)) σ τ I L r) (hv : m_inv σ) (ht : t < nv (σ.1 0 11)) (h0 : σ.1 15 t = 0) (a : Int32) (h2 : 2 ≤ nv (σ.1 32 t)) (hfy : σ.1 31 (12 * t + (nv (σ.1 32 t) - 1)) = 0) (hfx : ¬ σ.1 31 (12 * t + (nv (σ.1 32 t) - 1 - 1)) = 0) (q : Nat) (hq7 : τ q = none ∧ ¬ (1 ≤ q ∧ q ≤ 6)) (hq9 : β + 10000 ≤ q) : kk_M G yX7_does (ws_ yX7_does cX7_does 7 none) { frames := 6, cells := 1, slots := 7, locals := 134 } [jR (some 27), jR (some (β + 5000 + 20 * t)), jI a] true τ I L r jj_noP (fun a τ' I' L' r' => a = q ∧ I' q 6 = 2 ∧ cr_rel β ss e N ρ (cr_pl (σ.1 14) t (σ.1 14 t + 1)) (m_s2 t 2 σ) τ' I' L' r') := by
  refine kk_intro "BranchCells$Reckoner" (by decide) rfl (Nat.le_of_ble_eq_true rfl) ?_
  intro X hG hX hr hN hC hF hAd
  have hk := h.tk t ht
  have hT := hv.T
  have hp9 := (hv.tk t ht).po.1
  have hq := hp9.1
  have hp12 := hp9.2
  have hs9 := (hv.tk t ht).pr.2
  have hn4 : ¬ σ.1 22 t = -4 := by rw [(hv.tk t ht).pr.1]; exact nI_n4 (by have := hv.S; omega)
  have hs := h.sg _ hs9
  refine kk_aload_n (pc := 0) hX dX7_does_0 rfl ?_
  refine kk_getR (pc := 1) hX (x := some (β + 5000 + 20 * t + 7)) fl_X7_13_29 dX7_does_1 hk.k.k0 rfl hk.l.pi ?_
  refine kk_callV (pc := 4) hX (v_ctake X.1 _ _ _ _ h ht hq (by omega)) dX7_does_4 (lw_V q1074 q1075 q1076 q92 q1077) rfl ⟨by decide +kernel, by decide +kernel, by show _ = some (0 : Nat); decide +kernel⟩ ⟨Nat.le_of_ble_eq_true rfl, Nat.le_of_ble_eq_true rfl, Nat.le_of_ble_eq_true rfl, Nat.le_of_ble_eq_true rfl, Nat.le_of_ble_eq_true rfl⟩ (fun q => by cases q) hk.k.k7 jc_31 rfl (fun _ _ I3 _ _ hP => ?_) jj_kno
  obtain ⟨rfl, rfl, rfl, rfl,  h3⟩ := hP
  have hk3 := h3.tk t ht
  refine kk_istore_n (pc := 7) hX dX7_does_7 (by decide) ?_
  refine kk_aload_n (pc := 8) hX dX7_does_8 rfl ?_
  refine kk_getR (pc := 9) hX (x := some (β + 5000 + 20 * t + 7)) fl_X7_13_29 dX7_does_9 hk.k.k0 rfl hk3.l.pi ?_
  refine kk_callV (pc := 12) hX (v_ctake X.1 _ _ _ _ h3 ht (s2_v1 hq (by omega) hp9.2).2 (by rw [(s2_v1 hq (by omega) hp9.2).1]; omega)) dX7_does_12 (lw_V q1074 q1075 q1076 q92 q1077) rfl ⟨by decide +kernel, by decide +kernel, by show _ = some (0 : Nat); decide +kernel⟩ ⟨Nat.le_of_ble_eq_true rfl, Nat.le_of_ble_eq_true rfl, Nat.le_of_ble_eq_true rfl, Nat.le_of_ble_eq_true rfl, Nat.le_of_ble_eq_true rfl⟩ (fun q => by cases q) hk.k.k7 jc_31 rfl (fun _ _ I4 _ _ hP => ?_) jj_kno
  obtain ⟨rfl, rfl, rfl, rfl,  h4⟩ := hP
  rw [s2_2 hq h2 hp9.2] at h4
  have hk4 := h4.tk t ht
  refine kk_top (nI (nv (σ.1 32 t) - 1 - 1)) (by rw [(s2_v1 hq (by omega) hp9.2).1]) ?_
  refine kk_istore (pc := 15) hX dX7_does_15 (by decide) ?_
  refine kk_aload_n (pc := 17) hX dX7_does_17 rfl ?_
  refine kk_getR (pc := 18) hX (x := some (β + 5000 + 20 * t + 7)) fl_X7_13_29 dX7_does_18 hk.k.k0 rfl hk4.l.pi ?_
  refine kk_iload_n (pc := 21) hX dX7_does_21 rfl ?_
  refine kk_callU (pc := 22) hX (owner := "BranchCells$Values") (v_Vnum31 X.1 _ _ _ _ (β + 5000 + 20 * t + 7) (β + 5000 + 20 * t + 8) (β + 5000 + 20 * t + 9) 12 hk.k.k7 hk.l.p0 hk.l.p1 hk.k.k8 hk.k.k9 (by decide) (nv (σ.1 32 t) - 1) (by omega) ((hk.c.ph _ (by omega)).trans (if_pos hfy))) dX7_does_22 (lw_meth q1083) ⟨q1078, q1079, q1081, q1082, q91, jj_inT q1080 rfl⟩ ⟨by decide +kernel, by decide +kernel, by show _ = some (1 : Nat); decide +kernel⟩ ⟨Nat.le_of_ble_eq_true rfl, Nat.le_of_ble_eq_true rfl, Nat.le_of_ble_eq_true rfl, Nat.le_of_ble_eq_true rfl, Nat.le_of_ble_eq_true rfl⟩ (fun q => by cases q) hk.k.k7 jc_31 rfl (jj_keq ?_) jj_kno
  refine kk_topL (σ.2 30 (12 * t + (nv (σ.1 32 t) - 1))) ((hk.c.pn _ (by omega)).trans (if_pos hfy)) ?_
  refine kk_lstore (pc := 25) hX dX7_does_25 (by decide) ?_
  refine kk_aload_n (pc := 27) hX dX7_does_27 rfl ?_
  refine kk_aload_n (pc := 28) hX dX7_does_28 rfl ?_
  refine kk_aload_n (pc := 29) hX dX7_does_29 rfl ?_
  refine kk_getR (pc := 30) hX (x := some (β + 5000 + 20 * t + 7)) fl_X7_13_29 dX7_does_30 hk.k.k0 rfl hk4.l.pi ?_
  refine kk_iload (pc := 33) hX dX7_does_33 rfl ?_
  refine kk_callU (pc := 35) hX (owner := "BranchCells$Values") (v_VnumX31 X.1 _ _ _ _ (β + 5000 + 20 * t + 7) (β + 5000 + 20 * t + 8) (β + 5000 + 20 * t + 9) 12 hk.k.k7 hk.l.p0 hk.l.p1 hk.k.k8 hk.k.k9 (by decide) (nv (σ.1 32 t) - 1 - 1) _ (by omega) ((hk.c.ph _ (by omega)).trans (if_neg hfx)) q hq7) dX7_does_35 (lw_meth q1083) ⟨q1078, q1079, q1081, q1082, q91, jj_inT q1080 rfl⟩ ⟨by decide +kernel, by decide +kernel, by show _ = some (1 : Nat); decide +kernel⟩ ⟨Nat.le_of_ble_eq_true rfl, Nat.le_of_ble_eq_true rfl, Nat.le_of_ble_eq_true rfl, Nat.le_of_ble_eq_true rfl, Nat.le_of_ble_eq_true rfl⟩ (fun _ => hF rfl) hk.k.k7 jc_31 rfl jj_knp (jj_kth ?_)
  exact kk_out (pc := 35) hX hN ⟨Nat.le_refl _, Nat.le_refl _⟩ (⟨rfl, jj_us, (cr_rel.gar h4 hq7.1 hq9 (fun b hb => jj_tn hb) (fun b hb => (jj_ua hb).trans (jj_zn hb)) (fun b hb => jj_zn hb) (fun b hb => (jj_ua hb).trans ((jj_ua hb).trans ((jj_ua hb).trans ((jj_ua hb).trans ((jj_ua hb).trans ((jj_ua hb).trans ((jj_ua hb).trans (jj_zn hb)))))))))⟩)

theorem v_do8 (G : jj_G) (τ : jj_T) (I : jj_I) (L : jj_L) (r : jj_R) {β : Nat} {ss : List Nat} {e N : Nat → Nat} {ρ : jm} {σ : jm} {t : Nat} (h : cr_rel β ss e N ρ (cr_pl (σ.1 14) t (σ.1 14 t + 1)) σ τ I L r) (hv : m_inv σ) (ht : t < nv (σ.1 0 11)) (h0 : σ.1 15 t = 0) (a : Int32) (h2 : 2 ≤ nv (σ.1 32 t)) (hfy : σ.1 31 (12 * t + (nv (σ.1 32 t) - 1)) = 0) (hfx : σ.1 31 (12 * t + (nv (σ.1 32 t) - 1 - 1)) = 0) (hy0 : ¬ (σ.2 30 (12 * t + (nv (σ.1 32 t) - 1))) = 0) : kk_M G yX7_does (ws_ yX7_does cX7_does 7 none) { frames := 6, cells := 0, slots := 0, locals := 134 } [jR (some 28), jR (some (β + 5000 + 20 * t)), jI a] false τ I L r (fun v' τ' I' L' r' => v' = none ∧ τ' = τ ∧ cr_rel β ss e N ρ (cr_pl (σ.1 14) t (σ.1 14 t + 1)) (m_push t ((σ.2 30 (12 * t + (nv (σ.1 32 t) - 1 - 1))) / (σ.2 30 (12 * t + (nv (σ.1 32 t) - 1)))) 0 (m_s2 t 2 σ)) τ I' L' r') jj_no := by
  refine kk_intro "BranchCells$Reckoner" (by decide) rfl (Nat.le_of_ble_eq_true rfl) ?_
  intro X hG hX hr hN hC hF hAd
  have hk := h.tk t ht
  have hT := hv.T
  have hp9 := (hv.tk t ht).po.1
  have hq := hp9.1
  have hp12 := hp9.2
  have hs9 := (hv.tk t ht).pr.2
  have hn4 : ¬ σ.1 22 t = -4 := by rw [(hv.tk t ht).pr.1]; exact nI_n4 (by have := hv.S; omega)
  have hs := h.sg _ hs9
  refine kk_aload_n (pc := 0) hX dX7_does_0 rfl ?_
  refine kk_getR (pc := 1) hX (x := some (β + 5000 + 20 * t + 7)) fl_X7_13_29 dX7_does_1 hk.k.k0 rfl hk.l.pi ?_
  refine kk_callV (pc := 4) hX (v_ctake X.1 _ _ _ _ h ht hq (by omega)) dX7_does_4 (lw_V q1074 q1075 q1076 q92 q1077) rfl ⟨by decide +kernel, by decide +kernel, by show _ = some (0 : Nat); decide +kernel⟩ ⟨Nat.le_of_ble_eq_true rfl, Nat.le_of_ble_eq_true rfl, Nat.le_of_ble_eq_true rfl, Nat.le_of_ble_eq_true rfl, Nat.le_of_ble_eq_true rfl⟩ (fun q => by cases q) hk.k.k7 jc_31 rfl (fun _ _ I3 _ _ hP => ?_) jj_kno
  obtain ⟨rfl, rfl, rfl, rfl,  h3⟩ := hP
  have hk3 := h3.tk t ht
  refine kk_istore_n (pc := 7) hX dX7_does_7 (by decide) ?_
  refine kk_aload_n (pc := 8) hX dX7_does_8 rfl ?_
  refine kk_getR (pc := 9) hX (x := some (β + 5000 + 20 * t + 7)) fl_X7_13_29 dX7_does_9 hk.k.k0 rfl hk3.l.pi ?_
  refine kk_callV (pc := 12) hX (v_ctake X.1 _ _ _ _ h3 ht (s2_v1 hq (by omega) hp9.2).2 (by rw [(s2_v1 hq (by omega) hp9.2).1]; omega)) dX7_does_12 (lw_V q1074 q1075 q1076 q92 q1077) rfl ⟨by decide +kernel, by decide +kernel, by show _ = some (0 : Nat); decide +kernel⟩ ⟨Nat.le_of_ble_eq_true rfl, Nat.le_of_ble_eq_true rfl, Nat.le_of_ble_eq_true rfl, Nat.le_of_ble_eq_true rfl, Nat.le_of_ble_eq_true rfl⟩ (fun q => by cases q) hk.k.k7 jc_31 rfl (fun _ _ I4 _ _ hP => ?_) jj_kno
  obtain ⟨rfl, rfl, rfl, rfl,  h4⟩ := hP
  rw [s2_2 hq h2 hp9.2] at h4
  have hk4 := h4.tk t ht
  refine kk_top (nI (nv (σ.1 32 t) - 1 - 1)) (by rw [(s2_v1 hq (by omega) hp9.2).1]) ?_
  refine kk_istore (pc := 15) hX dX7_does_15 (by decide) ?_
  refine kk_aload_n (pc := 17) hX dX7_does_17 rfl ?_
  refine kk_getR (pc := 18) hX (x := some (β + 5000 + 20 * t + 7)) fl_X7_13_29 dX7_does_18 hk.k.k0 rfl hk4.l.pi ?_
  refine kk_iload_n (pc := 21) hX dX7_does_21 rfl ?_
  refine kk_callU (pc := 22) hX (owner := "BranchCells$Values") (v_Vnum31 X.1 _ _ _ _ (β + 5000 + 20 * t + 7) (β + 5000 + 20 * t + 8) (β + 5000 + 20 * t + 9) 12 hk.k.k7 hk.l.p0 hk.l.p1 hk.k.k8 hk.k.k9 (by decide) (nv (σ.1 32 t) - 1) (by omega) ((hk.c.ph _ (by omega)).trans (if_pos hfy))) dX7_does_22 (lw_meth q1083) ⟨q1078, q1079, q1081, q1082, q91, jj_inT q1080 rfl⟩ ⟨by decide +kernel, by decide +kernel, by show _ = some (1 : Nat); decide +kernel⟩ ⟨Nat.le_of_ble_eq_true rfl, Nat.le_of_ble_eq_true rfl, Nat.le_of_ble_eq_true rfl, Nat.le_of_ble_eq_true rfl, Nat.le_of_ble_eq_true rfl⟩ (fun q => by cases q) hk.k.k7 jc_31 rfl (jj_keq ?_) jj_kno
  refine kk_topL (σ.2 30 (12 * t + (nv (σ.1 32 t) - 1))) ((hk.c.pn _ (by omega)).trans (if_pos hfy)) ?_
  refine kk_lstore (pc := 25) hX dX7_does_25 (by decide) ?_
  refine kk_aload_n (pc := 27) hX dX7_does_27 rfl ?_
  refine kk_aload_n (pc := 28) hX dX7_does_28 rfl ?_
  refine kk_aload_n (pc := 29) hX dX7_does_29 rfl ?_
  refine kk_getR (pc := 30) hX (x := some (β + 5000 + 20 * t + 7)) fl_X7_13_29 dX7_does_30 hk.k.k0 rfl hk4.l.pi ?_
  refine kk_iload (pc := 33) hX dX7_does_33 rfl ?_
  refine kk_callU (pc := 35) hX (owner := "BranchCells$Values") (v_Vnum31 X.1 _ _ _ _ (β + 5000 + 20 * t + 7) (β + 5000 + 20 * t + 8) (β + 5000 + 20 * t + 9) 12 hk.k.k7 hk.l.p0 hk.l.p1 hk.k.k8 hk.k.k9 (by decide) (nv (σ.1 32 t) - 1 - 1) (by omega) ((hk.c.ph _ (by omega)).trans (if_pos hfx))) dX7_does_35 (lw_meth q1083) ⟨q1078, q1079, q1081, q1082, q91, jj_inT q1080 rfl⟩ ⟨by decide +kernel, by decide +kernel, by show _ = some (1 : Nat); decide +kernel⟩ ⟨Nat.le_of_ble_eq_true rfl, Nat.le_of_ble_eq_true rfl, Nat.le_of_ble_eq_true rfl, Nat.le_of_ble_eq_true rfl, Nat.le_of_ble_eq_true rfl⟩ (fun q => by cases q) hk.k.k7 jc_31 rfl (jj_keq ?_) jj_kno
  refine kk_topL (σ.2 30 (12 * t + (nv (σ.1 32 t) - 1 - 1))) ((hk.c.pn _ (by omega)).trans (if_pos hfx)) ?_
  refine kk_lload (pc := 38) hX dX7_does_38 rfl ?_
  refine kk_callU (pc := 40) hX (owner := "BranchCells$Reckoner") (v_of8 X.1 _ _ _ _ 28 (σ.2 30 (12 * t + (nv (σ.1 32 t) - 1 - 1))) (σ.2 30 (12 * t + (nv (σ.1 32 t) - 1))) hy0) dX7_does_40 (lw_meth q1109) ⟨q1086, q1088, q1107, q1108, q64, jj_inT q1087 rfl⟩ ⟨by decide +kernel, by decide +kernel, by show _ = some (2 : Nat); decide +kernel⟩ ⟨Nat.le_of_ble_eq_true rfl, Nat.le_of_ble_eq_true rfl, Nat.le_of_ble_eq_true rfl, Nat.le_of_ble_eq_true rfl, Nat.le_of_ble_eq_true rfl⟩ (fun q => by cases q) (h.ro.dd 8 (by decide)).k0 jc_11 rfl (jj_keq ?_) jj_kno
  refine kk_callV (pc := 43) hX (v_cTput X.1 _ _ _ _ h4 ht (s2_v2 hq h2 hp9.2).2 ((σ.2 30 (12 * t + (nv (σ.1 32 t) - 1 - 1))) / (σ.2 30 (12 * t + (nv (σ.1 32 t) - 1)))) (by rw [(s2_v2 hq h2 hp9.2).1]; omega)) dX7_does_43 (lw_V q1112 q1058 q1059 q88 q1060) rfl ⟨by decide +kernel, by decide +kernel, by show _ = some (1 : Nat); decide +kernel⟩ ⟨Nat.le_of_ble_eq_true rfl, Nat.le_of_ble_eq_true rfl, Nat.le_of_ble_eq_true rfl, Nat.le_of_ble_eq_true rfl, Nat.le_of_ble_eq_true rfl⟩ (fun q => by cases q) hk.k.k0 jc_29 rfl (fun _ _ I5 L5 r5 hP => ?_) jj_kno
  obtain ⟨rfl, rfl,  h5⟩ := hP
  exact kk_vret (pc := 46) hX dX7_does_46 hr ⟨Nat.le_refl _, Nat.le_refl _⟩ (⟨rfl, rfl, h5⟩)

theorem v_do8X (G : jj_G) (τ : jj_T) (I : jj_I) (L : jj_L) (r : jj_R) {β : Nat} {ss : List Nat} {e N : Nat → Nat} {ρ : jm} {σ : jm} {t : Nat} (h : cr_rel β ss e N ρ (cr_pl (σ.1 14) t (σ.1 14 t + 1)) σ τ I L r) (hv : m_inv σ) (ht : t < nv (σ.1 0 11)) (h0 : σ.1 15 t = 0) (a : Int32) (h2 : 2 ≤ nv (σ.1 32 t)) (hfy : ¬ σ.1 31 (12 * t + (nv (σ.1 32 t) - 1)) = 0) (q : Nat) (hq7 : τ q = none ∧ ¬ (1 ≤ q ∧ q ≤ 6)) (hq9 : β + 10000 ≤ q) : kk_M G yX7_does (ws_ yX7_does cX7_does 7 none) { frames := 6, cells := 1, slots := 7, locals := 134 } [jR (some 28), jR (some (β + 5000 + 20 * t)), jI a] true τ I L r jj_noP (fun a τ' I' L' r' => a = q ∧ I' q 6 = 2 ∧ cr_rel β ss e N ρ (cr_pl (σ.1 14) t (σ.1 14 t + 1)) (m_s2 t 2 σ) τ' I' L' r') := by
  refine kk_intro "BranchCells$Reckoner" (by decide) rfl (Nat.le_of_ble_eq_true rfl) ?_
  intro X hG hX hr hN hC hF hAd
  have hk := h.tk t ht
  have hT := hv.T
  have hp9 := (hv.tk t ht).po.1
  have hq := hp9.1
  have hp12 := hp9.2
  have hs9 := (hv.tk t ht).pr.2
  have hn4 : ¬ σ.1 22 t = -4 := by rw [(hv.tk t ht).pr.1]; exact nI_n4 (by have := hv.S; omega)
  have hs := h.sg _ hs9
  refine kk_aload_n (pc := 0) hX dX7_does_0 rfl ?_
  refine kk_getR (pc := 1) hX (x := some (β + 5000 + 20 * t + 7)) fl_X7_13_29 dX7_does_1 hk.k.k0 rfl hk.l.pi ?_
  refine kk_callV (pc := 4) hX (v_ctake X.1 _ _ _ _ h ht hq (by omega)) dX7_does_4 (lw_V q1074 q1075 q1076 q92 q1077) rfl ⟨by decide +kernel, by decide +kernel, by show _ = some (0 : Nat); decide +kernel⟩ ⟨Nat.le_of_ble_eq_true rfl, Nat.le_of_ble_eq_true rfl, Nat.le_of_ble_eq_true rfl, Nat.le_of_ble_eq_true rfl, Nat.le_of_ble_eq_true rfl⟩ (fun q => by cases q) hk.k.k7 jc_31 rfl (fun _ _ I3 _ _ hP => ?_) jj_kno
  obtain ⟨rfl, rfl, rfl, rfl,  h3⟩ := hP
  have hk3 := h3.tk t ht
  refine kk_istore_n (pc := 7) hX dX7_does_7 (by decide) ?_
  refine kk_aload_n (pc := 8) hX dX7_does_8 rfl ?_
  refine kk_getR (pc := 9) hX (x := some (β + 5000 + 20 * t + 7)) fl_X7_13_29 dX7_does_9 hk.k.k0 rfl hk3.l.pi ?_
  refine kk_callV (pc := 12) hX (v_ctake X.1 _ _ _ _ h3 ht (s2_v1 hq (by omega) hp9.2).2 (by rw [(s2_v1 hq (by omega) hp9.2).1]; omega)) dX7_does_12 (lw_V q1074 q1075 q1076 q92 q1077) rfl ⟨by decide +kernel, by decide +kernel, by show _ = some (0 : Nat); decide +kernel⟩ ⟨Nat.le_of_ble_eq_true rfl, Nat.le_of_ble_eq_true rfl, Nat.le_of_ble_eq_true rfl, Nat.le_of_ble_eq_true rfl, Nat.le_of_ble_eq_true rfl⟩ (fun q => by cases q) hk.k.k7 jc_31 rfl (fun _ _ I4 _ _ hP => ?_) jj_kno
  obtain ⟨rfl, rfl, rfl, rfl,  h4⟩ := hP
  rw [s2_2 hq h2 hp9.2] at h4
  have hk4 := h4.tk t ht
  refine kk_top (nI (nv (σ.1 32 t) - 1 - 1)) (by rw [(s2_v1 hq (by omega) hp9.2).1]) ?_
  refine kk_istore (pc := 15) hX dX7_does_15 (by decide) ?_
  refine kk_aload_n (pc := 17) hX dX7_does_17 rfl ?_
  refine kk_getR (pc := 18) hX (x := some (β + 5000 + 20 * t + 7)) fl_X7_13_29 dX7_does_18 hk.k.k0 rfl hk4.l.pi ?_
  refine kk_iload_n (pc := 21) hX dX7_does_21 rfl ?_
  refine kk_callU (pc := 22) hX (owner := "BranchCells$Values") (v_VnumX31 X.1 _ _ _ _ (β + 5000 + 20 * t + 7) (β + 5000 + 20 * t + 8) (β + 5000 + 20 * t + 9) 12 hk.k.k7 hk.l.p0 hk.l.p1 hk.k.k8 hk.k.k9 (by decide) (nv (σ.1 32 t) - 1) _ (by omega) ((hk.c.ph _ (by omega)).trans (if_neg hfy)) q hq7) dX7_does_22 (lw_meth q1083) ⟨q1078, q1079, q1081, q1082, q91, jj_inT q1080 rfl⟩ ⟨by decide +kernel, by decide +kernel, by show _ = some (1 : Nat); decide +kernel⟩ ⟨Nat.le_of_ble_eq_true rfl, Nat.le_of_ble_eq_true rfl, Nat.le_of_ble_eq_true rfl, Nat.le_of_ble_eq_true rfl, Nat.le_of_ble_eq_true rfl⟩ (fun _ => hF rfl) hk.k.k7 jc_31 rfl jj_knp (jj_kth ?_)
  exact kk_out (pc := 22) hX hN ⟨Nat.le_refl _, Nat.le_refl _⟩ (⟨rfl, jj_us, (cr_rel.gar h4 hq7.1 hq9 (fun b hb => jj_tn hb) (fun b hb => (jj_ua hb).trans (jj_zn hb)) (fun b hb => jj_zn hb) (fun b hb => (jj_ua hb).trans ((jj_ua hb).trans ((jj_ua hb).trans ((jj_ua hb).trans ((jj_ua hb).trans ((jj_ua hb).trans ((jj_ua hb).trans (jj_zn hb)))))))))⟩)

theorem v_do8Z (G : jj_G) (τ : jj_T) (I : jj_I) (L : jj_L) (r : jj_R) {β : Nat} {ss : List Nat} {e N : Nat → Nat} {ρ : jm} {σ : jm} {t : Nat} (h : cr_rel β ss e N ρ (cr_pl (σ.1 14) t (σ.1 14 t + 1)) σ τ I L r) (hv : m_inv σ) (ht : t < nv (σ.1 0 11)) (h0 : σ.1 15 t = 0) (a : Int32) (h2 : 2 ≤ nv (σ.1 32 t)) (hfy : σ.1 31 (12 * t + (nv (σ.1 32 t) - 1)) = 0) (hfx : ¬ σ.1 31 (12 * t + (nv (σ.1 32 t) - 1 - 1)) = 0) (q : Nat) (hq7 : τ q = none ∧ ¬ (1 ≤ q ∧ q ≤ 6)) (hq9 : β + 10000 ≤ q) : kk_M G yX7_does (ws_ yX7_does cX7_does 7 none) { frames := 6, cells := 1, slots := 7, locals := 134 } [jR (some 28), jR (some (β + 5000 + 20 * t)), jI a] true τ I L r jj_noP (fun a τ' I' L' r' => a = q ∧ I' q 6 = 2 ∧ cr_rel β ss e N ρ (cr_pl (σ.1 14) t (σ.1 14 t + 1)) (m_s2 t 2 σ) τ' I' L' r') := by
  refine kk_intro "BranchCells$Reckoner" (by decide) rfl (Nat.le_of_ble_eq_true rfl) ?_
  intro X hG hX hr hN hC hF hAd
  have hk := h.tk t ht
  have hT := hv.T
  have hp9 := (hv.tk t ht).po.1
  have hq := hp9.1
  have hp12 := hp9.2
  have hs9 := (hv.tk t ht).pr.2
  have hn4 : ¬ σ.1 22 t = -4 := by rw [(hv.tk t ht).pr.1]; exact nI_n4 (by have := hv.S; omega)
  have hs := h.sg _ hs9
  refine kk_aload_n (pc := 0) hX dX7_does_0 rfl ?_
  refine kk_getR (pc := 1) hX (x := some (β + 5000 + 20 * t + 7)) fl_X7_13_29 dX7_does_1 hk.k.k0 rfl hk.l.pi ?_
  refine kk_callV (pc := 4) hX (v_ctake X.1 _ _ _ _ h ht hq (by omega)) dX7_does_4 (lw_V q1074 q1075 q1076 q92 q1077) rfl ⟨by decide +kernel, by decide +kernel, by show _ = some (0 : Nat); decide +kernel⟩ ⟨Nat.le_of_ble_eq_true rfl, Nat.le_of_ble_eq_true rfl, Nat.le_of_ble_eq_true rfl, Nat.le_of_ble_eq_true rfl, Nat.le_of_ble_eq_true rfl⟩ (fun q => by cases q) hk.k.k7 jc_31 rfl (fun _ _ I3 _ _ hP => ?_) jj_kno
  obtain ⟨rfl, rfl, rfl, rfl,  h3⟩ := hP
  have hk3 := h3.tk t ht
  refine kk_istore_n (pc := 7) hX dX7_does_7 (by decide) ?_
  refine kk_aload_n (pc := 8) hX dX7_does_8 rfl ?_
  refine kk_getR (pc := 9) hX (x := some (β + 5000 + 20 * t + 7)) fl_X7_13_29 dX7_does_9 hk.k.k0 rfl hk3.l.pi ?_
  refine kk_callV (pc := 12) hX (v_ctake X.1 _ _ _ _ h3 ht (s2_v1 hq (by omega) hp9.2).2 (by rw [(s2_v1 hq (by omega) hp9.2).1]; omega)) dX7_does_12 (lw_V q1074 q1075 q1076 q92 q1077) rfl ⟨by decide +kernel, by decide +kernel, by show _ = some (0 : Nat); decide +kernel⟩ ⟨Nat.le_of_ble_eq_true rfl, Nat.le_of_ble_eq_true rfl, Nat.le_of_ble_eq_true rfl, Nat.le_of_ble_eq_true rfl, Nat.le_of_ble_eq_true rfl⟩ (fun q => by cases q) hk.k.k7 jc_31 rfl (fun _ _ I4 _ _ hP => ?_) jj_kno
  obtain ⟨rfl, rfl, rfl, rfl,  h4⟩ := hP
  rw [s2_2 hq h2 hp9.2] at h4
  have hk4 := h4.tk t ht
  refine kk_top (nI (nv (σ.1 32 t) - 1 - 1)) (by rw [(s2_v1 hq (by omega) hp9.2).1]) ?_
  refine kk_istore (pc := 15) hX dX7_does_15 (by decide) ?_
  refine kk_aload_n (pc := 17) hX dX7_does_17 rfl ?_
  refine kk_getR (pc := 18) hX (x := some (β + 5000 + 20 * t + 7)) fl_X7_13_29 dX7_does_18 hk.k.k0 rfl hk4.l.pi ?_
  refine kk_iload_n (pc := 21) hX dX7_does_21 rfl ?_
  refine kk_callU (pc := 22) hX (owner := "BranchCells$Values") (v_Vnum31 X.1 _ _ _ _ (β + 5000 + 20 * t + 7) (β + 5000 + 20 * t + 8) (β + 5000 + 20 * t + 9) 12 hk.k.k7 hk.l.p0 hk.l.p1 hk.k.k8 hk.k.k9 (by decide) (nv (σ.1 32 t) - 1) (by omega) ((hk.c.ph _ (by omega)).trans (if_pos hfy))) dX7_does_22 (lw_meth q1083) ⟨q1078, q1079, q1081, q1082, q91, jj_inT q1080 rfl⟩ ⟨by decide +kernel, by decide +kernel, by show _ = some (1 : Nat); decide +kernel⟩ ⟨Nat.le_of_ble_eq_true rfl, Nat.le_of_ble_eq_true rfl, Nat.le_of_ble_eq_true rfl, Nat.le_of_ble_eq_true rfl, Nat.le_of_ble_eq_true rfl⟩ (fun q => by cases q) hk.k.k7 jc_31 rfl (jj_keq ?_) jj_kno
  refine kk_topL (σ.2 30 (12 * t + (nv (σ.1 32 t) - 1))) ((hk.c.pn _ (by omega)).trans (if_pos hfy)) ?_
  refine kk_lstore (pc := 25) hX dX7_does_25 (by decide) ?_
  refine kk_aload_n (pc := 27) hX dX7_does_27 rfl ?_
  refine kk_aload_n (pc := 28) hX dX7_does_28 rfl ?_
  refine kk_aload_n (pc := 29) hX dX7_does_29 rfl ?_
  refine kk_getR (pc := 30) hX (x := some (β + 5000 + 20 * t + 7)) fl_X7_13_29 dX7_does_30 hk.k.k0 rfl hk4.l.pi ?_
  refine kk_iload (pc := 33) hX dX7_does_33 rfl ?_
  refine kk_callU (pc := 35) hX (owner := "BranchCells$Values") (v_VnumX31 X.1 _ _ _ _ (β + 5000 + 20 * t + 7) (β + 5000 + 20 * t + 8) (β + 5000 + 20 * t + 9) 12 hk.k.k7 hk.l.p0 hk.l.p1 hk.k.k8 hk.k.k9 (by decide) (nv (σ.1 32 t) - 1 - 1) _ (by omega) ((hk.c.ph _ (by omega)).trans (if_neg hfx)) q hq7) dX7_does_35 (lw_meth q1083) ⟨q1078, q1079, q1081, q1082, q91, jj_inT q1080 rfl⟩ ⟨by decide +kernel, by decide +kernel, by show _ = some (1 : Nat); decide +kernel⟩ ⟨Nat.le_of_ble_eq_true rfl, Nat.le_of_ble_eq_true rfl, Nat.le_of_ble_eq_true rfl, Nat.le_of_ble_eq_true rfl, Nat.le_of_ble_eq_true rfl⟩ (fun _ => hF rfl) hk.k.k7 jc_31 rfl jj_knp (jj_kth ?_)
  exact kk_out (pc := 35) hX hN ⟨Nat.le_refl _, Nat.le_refl _⟩ (⟨rfl, jj_us, (cr_rel.gar h4 hq7.1 hq9 (fun b hb => jj_tn hb) (fun b hb => (jj_ua hb).trans (jj_zn hb)) (fun b hb => jj_zn hb) (fun b hb => (jj_ua hb).trans ((jj_ua hb).trans ((jj_ua hb).trans ((jj_ua hb).trans ((jj_ua hb).trans ((jj_ua hb).trans ((jj_ua hb).trans (jj_zn hb)))))))))⟩)

theorem v_do9 (G : jj_G) (τ : jj_T) (I : jj_I) (L : jj_L) (r : jj_R) {β : Nat} {ss : List Nat} {e N : Nat → Nat} {ρ : jm} {σ : jm} {t : Nat} (h : cr_rel β ss e N ρ (cr_pl (σ.1 14) t (σ.1 14 t + 1)) σ τ I L r) (hv : m_inv σ) (ht : t < nv (σ.1 0 11)) (h0 : σ.1 15 t = 0) (a : Int32) (h2 : 2 ≤ nv (σ.1 32 t)) (hfy : σ.1 31 (12 * t + (nv (σ.1 32 t) - 1)) = 0) (hfx : σ.1 31 (12 * t + (nv (σ.1 32 t) - 1 - 1)) = 0) : kk_M G yX7_does (ws_ yX7_does cX7_does 7 none) { frames := 6, cells := 0, slots := 0, locals := 134 } [jR (some 29), jR (some (β + 5000 + 20 * t)), jI a] false τ I L r (fun v' τ' I' L' r' => v' = none ∧ τ' = τ ∧ cr_rel β ss e N ρ (cr_pl (σ.1 14) t (σ.1 14 t + 1)) (m_push t (if (σ.2 30 (12 * t + (nv (σ.1 32 t) - 1))) ≤ (σ.2 30 (12 * t + (nv (σ.1 32 t) - 1 - 1))) then 0 else 1) 0 (m_s2 t 2 σ)) τ I' L' r') jj_no := by
  refine kk_intro "BranchCells$Reckoner" (by decide) rfl (Nat.le_of_ble_eq_true rfl) ?_
  intro X hG hX hr hN hC hF hAd
  have hk := h.tk t ht
  have hT := hv.T
  have hp9 := (hv.tk t ht).po.1
  have hq := hp9.1
  have hp12 := hp9.2
  have hs9 := (hv.tk t ht).pr.2
  have hn4 : ¬ σ.1 22 t = -4 := by rw [(hv.tk t ht).pr.1]; exact nI_n4 (by have := hv.S; omega)
  have hs := h.sg _ hs9
  refine kk_aload_n (pc := 0) hX dX7_does_0 rfl ?_
  refine kk_getR (pc := 1) hX (x := some (β + 5000 + 20 * t + 7)) fl_X7_13_29 dX7_does_1 hk.k.k0 rfl hk.l.pi ?_
  refine kk_callV (pc := 4) hX (v_ctake X.1 _ _ _ _ h ht hq (by omega)) dX7_does_4 (lw_V q1074 q1075 q1076 q92 q1077) rfl ⟨by decide +kernel, by decide +kernel, by show _ = some (0 : Nat); decide +kernel⟩ ⟨Nat.le_of_ble_eq_true rfl, Nat.le_of_ble_eq_true rfl, Nat.le_of_ble_eq_true rfl, Nat.le_of_ble_eq_true rfl, Nat.le_of_ble_eq_true rfl⟩ (fun q => by cases q) hk.k.k7 jc_31 rfl (fun _ _ I3 _ _ hP => ?_) jj_kno
  obtain ⟨rfl, rfl, rfl, rfl,  h3⟩ := hP
  have hk3 := h3.tk t ht
  refine kk_istore_n (pc := 7) hX dX7_does_7 (by decide) ?_
  refine kk_aload_n (pc := 8) hX dX7_does_8 rfl ?_
  refine kk_getR (pc := 9) hX (x := some (β + 5000 + 20 * t + 7)) fl_X7_13_29 dX7_does_9 hk.k.k0 rfl hk3.l.pi ?_
  refine kk_callV (pc := 12) hX (v_ctake X.1 _ _ _ _ h3 ht (s2_v1 hq (by omega) hp9.2).2 (by rw [(s2_v1 hq (by omega) hp9.2).1]; omega)) dX7_does_12 (lw_V q1074 q1075 q1076 q92 q1077) rfl ⟨by decide +kernel, by decide +kernel, by show _ = some (0 : Nat); decide +kernel⟩ ⟨Nat.le_of_ble_eq_true rfl, Nat.le_of_ble_eq_true rfl, Nat.le_of_ble_eq_true rfl, Nat.le_of_ble_eq_true rfl, Nat.le_of_ble_eq_true rfl⟩ (fun q => by cases q) hk.k.k7 jc_31 rfl (fun _ _ I4 _ _ hP => ?_) jj_kno
  obtain ⟨rfl, rfl, rfl, rfl,  h4⟩ := hP
  rw [s2_2 hq h2 hp9.2] at h4
  have hk4 := h4.tk t ht
  refine kk_top (nI (nv (σ.1 32 t) - 1 - 1)) (by rw [(s2_v1 hq (by omega) hp9.2).1]) ?_
  refine kk_istore (pc := 15) hX dX7_does_15 (by decide) ?_
  refine kk_aload_n (pc := 17) hX dX7_does_17 rfl ?_
  refine kk_getR (pc := 18) hX (x := some (β + 5000 + 20 * t + 7)) fl_X7_13_29 dX7_does_18 hk.k.k0 rfl hk4.l.pi ?_
  refine kk_iload_n (pc := 21) hX dX7_does_21 rfl ?_
  refine kk_callU (pc := 22) hX (owner := "BranchCells$Values") (v_Vnum31 X.1 _ _ _ _ (β + 5000 + 20 * t + 7) (β + 5000 + 20 * t + 8) (β + 5000 + 20 * t + 9) 12 hk.k.k7 hk.l.p0 hk.l.p1 hk.k.k8 hk.k.k9 (by decide) (nv (σ.1 32 t) - 1) (by omega) ((hk.c.ph _ (by omega)).trans (if_pos hfy))) dX7_does_22 (lw_meth q1083) ⟨q1078, q1079, q1081, q1082, q91, jj_inT q1080 rfl⟩ ⟨by decide +kernel, by decide +kernel, by show _ = some (1 : Nat); decide +kernel⟩ ⟨Nat.le_of_ble_eq_true rfl, Nat.le_of_ble_eq_true rfl, Nat.le_of_ble_eq_true rfl, Nat.le_of_ble_eq_true rfl, Nat.le_of_ble_eq_true rfl⟩ (fun q => by cases q) hk.k.k7 jc_31 rfl (jj_keq ?_) jj_kno
  refine kk_topL (σ.2 30 (12 * t + (nv (σ.1 32 t) - 1))) ((hk.c.pn _ (by omega)).trans (if_pos hfy)) ?_
  refine kk_lstore (pc := 25) hX dX7_does_25 (by decide) ?_
  refine kk_aload_n (pc := 27) hX dX7_does_27 rfl ?_
  refine kk_aload_n (pc := 28) hX dX7_does_28 rfl ?_
  refine kk_aload_n (pc := 29) hX dX7_does_29 rfl ?_
  refine kk_getR (pc := 30) hX (x := some (β + 5000 + 20 * t + 7)) fl_X7_13_29 dX7_does_30 hk.k.k0 rfl hk4.l.pi ?_
  refine kk_iload (pc := 33) hX dX7_does_33 rfl ?_
  refine kk_callU (pc := 35) hX (owner := "BranchCells$Values") (v_Vnum31 X.1 _ _ _ _ (β + 5000 + 20 * t + 7) (β + 5000 + 20 * t + 8) (β + 5000 + 20 * t + 9) 12 hk.k.k7 hk.l.p0 hk.l.p1 hk.k.k8 hk.k.k9 (by decide) (nv (σ.1 32 t) - 1 - 1) (by omega) ((hk.c.ph _ (by omega)).trans (if_pos hfx))) dX7_does_35 (lw_meth q1083) ⟨q1078, q1079, q1081, q1082, q91, jj_inT q1080 rfl⟩ ⟨by decide +kernel, by decide +kernel, by show _ = some (1 : Nat); decide +kernel⟩ ⟨Nat.le_of_ble_eq_true rfl, Nat.le_of_ble_eq_true rfl, Nat.le_of_ble_eq_true rfl, Nat.le_of_ble_eq_true rfl, Nat.le_of_ble_eq_true rfl⟩ (fun q => by cases q) hk.k.k7 jc_31 rfl (jj_keq ?_) jj_kno
  refine kk_topL (σ.2 30 (12 * t + (nv (σ.1 32 t) - 1 - 1))) ((hk.c.pn _ (by omega)).trans (if_pos hfx)) ?_
  refine kk_lload (pc := 38) hX dX7_does_38 rfl ?_
  refine kk_callU (pc := 40) hX (owner := "BranchCells$Reckoner") (v_of9 X.1 _ _ _ _ 29 (σ.2 30 (12 * t + (nv (σ.1 32 t) - 1 - 1))) (σ.2 30 (12 * t + (nv (σ.1 32 t) - 1)))) dX7_does_40 (lw_meth q1091) ⟨q1086, q1088, q1089, q1090, q65, jj_inT q1087 rfl⟩ ⟨by decide +kernel, by decide +kernel, by show _ = some (2 : Nat); decide +kernel⟩ ⟨Nat.le_of_ble_eq_true rfl, Nat.le_of_ble_eq_true rfl, Nat.le_of_ble_eq_true rfl, Nat.le_of_ble_eq_true rfl, Nat.le_of_ble_eq_true rfl⟩ (fun q => by cases q) (h.ro.dd 9 (by decide)).k0 jc_12 rfl (jj_keq ?_) jj_kno
  refine kk_callV (pc := 43) hX (v_cTput X.1 _ _ _ _ h4 ht (s2_v2 hq h2 hp9.2).2 (if (σ.2 30 (12 * t + (nv (σ.1 32 t) - 1))) ≤ (σ.2 30 (12 * t + (nv (σ.1 32 t) - 1 - 1))) then 0 else 1) (by rw [(s2_v2 hq h2 hp9.2).1]; omega)) dX7_does_43 (lw_V q1112 q1058 q1059 q88 q1060) rfl ⟨by decide +kernel, by decide +kernel, by show _ = some (1 : Nat); decide +kernel⟩ ⟨Nat.le_of_ble_eq_true rfl, Nat.le_of_ble_eq_true rfl, Nat.le_of_ble_eq_true rfl, Nat.le_of_ble_eq_true rfl, Nat.le_of_ble_eq_true rfl⟩ (fun q => by cases q) hk.k.k0 jc_29 rfl (fun _ _ I5 L5 r5 hP => ?_) jj_kno
  obtain ⟨rfl, rfl,  h5⟩ := hP
  exact kk_vret (pc := 46) hX dX7_does_46 hr ⟨Nat.le_refl _, Nat.le_refl _⟩ (⟨rfl, rfl, h5⟩)

theorem v_do9X (G : jj_G) (τ : jj_T) (I : jj_I) (L : jj_L) (r : jj_R) {β : Nat} {ss : List Nat} {e N : Nat → Nat} {ρ : jm} {σ : jm} {t : Nat} (h : cr_rel β ss e N ρ (cr_pl (σ.1 14) t (σ.1 14 t + 1)) σ τ I L r) (hv : m_inv σ) (ht : t < nv (σ.1 0 11)) (h0 : σ.1 15 t = 0) (a : Int32) (h2 : 2 ≤ nv (σ.1 32 t)) (hfy : ¬ σ.1 31 (12 * t + (nv (σ.1 32 t) - 1)) = 0) (q : Nat) (hq7 : τ q = none ∧ ¬ (1 ≤ q ∧ q ≤ 6)) (hq9 : β + 10000 ≤ q) : kk_M G yX7_does (ws_ yX7_does cX7_does 7 none) { frames := 6, cells := 1, slots := 7, locals := 134 } [jR (some 29), jR (some (β + 5000 + 20 * t)), jI a] true τ I L r jj_noP (fun a τ' I' L' r' => a = q ∧ I' q 6 = 2 ∧ cr_rel β ss e N ρ (cr_pl (σ.1 14) t (σ.1 14 t + 1)) (m_s2 t 2 σ) τ' I' L' r') := by
  refine kk_intro "BranchCells$Reckoner" (by decide) rfl (Nat.le_of_ble_eq_true rfl) ?_
  intro X hG hX hr hN hC hF hAd
  have hk := h.tk t ht
  have hT := hv.T
  have hp9 := (hv.tk t ht).po.1
  have hq := hp9.1
  have hp12 := hp9.2
  have hs9 := (hv.tk t ht).pr.2
  have hn4 : ¬ σ.1 22 t = -4 := by rw [(hv.tk t ht).pr.1]; exact nI_n4 (by have := hv.S; omega)
  have hs := h.sg _ hs9
  refine kk_aload_n (pc := 0) hX dX7_does_0 rfl ?_
  refine kk_getR (pc := 1) hX (x := some (β + 5000 + 20 * t + 7)) fl_X7_13_29 dX7_does_1 hk.k.k0 rfl hk.l.pi ?_
  refine kk_callV (pc := 4) hX (v_ctake X.1 _ _ _ _ h ht hq (by omega)) dX7_does_4 (lw_V q1074 q1075 q1076 q92 q1077) rfl ⟨by decide +kernel, by decide +kernel, by show _ = some (0 : Nat); decide +kernel⟩ ⟨Nat.le_of_ble_eq_true rfl, Nat.le_of_ble_eq_true rfl, Nat.le_of_ble_eq_true rfl, Nat.le_of_ble_eq_true rfl, Nat.le_of_ble_eq_true rfl⟩ (fun q => by cases q) hk.k.k7 jc_31 rfl (fun _ _ I3 _ _ hP => ?_) jj_kno
  obtain ⟨rfl, rfl, rfl, rfl,  h3⟩ := hP
  have hk3 := h3.tk t ht
  refine kk_istore_n (pc := 7) hX dX7_does_7 (by decide) ?_
  refine kk_aload_n (pc := 8) hX dX7_does_8 rfl ?_
  refine kk_getR (pc := 9) hX (x := some (β + 5000 + 20 * t + 7)) fl_X7_13_29 dX7_does_9 hk.k.k0 rfl hk3.l.pi ?_
  refine kk_callV (pc := 12) hX (v_ctake X.1 _ _ _ _ h3 ht (s2_v1 hq (by omega) hp9.2).2 (by rw [(s2_v1 hq (by omega) hp9.2).1]; omega)) dX7_does_12 (lw_V q1074 q1075 q1076 q92 q1077) rfl ⟨by decide +kernel, by decide +kernel, by show _ = some (0 : Nat); decide +kernel⟩ ⟨Nat.le_of_ble_eq_true rfl, Nat.le_of_ble_eq_true rfl, Nat.le_of_ble_eq_true rfl, Nat.le_of_ble_eq_true rfl, Nat.le_of_ble_eq_true rfl⟩ (fun q => by cases q) hk.k.k7 jc_31 rfl (fun _ _ I4 _ _ hP => ?_) jj_kno
  obtain ⟨rfl, rfl, rfl, rfl,  h4⟩ := hP
  rw [s2_2 hq h2 hp9.2] at h4
  have hk4 := h4.tk t ht
  refine kk_top (nI (nv (σ.1 32 t) - 1 - 1)) (by rw [(s2_v1 hq (by omega) hp9.2).1]) ?_
  refine kk_istore (pc := 15) hX dX7_does_15 (by decide) ?_
  refine kk_aload_n (pc := 17) hX dX7_does_17 rfl ?_
  refine kk_getR (pc := 18) hX (x := some (β + 5000 + 20 * t + 7)) fl_X7_13_29 dX7_does_18 hk.k.k0 rfl hk4.l.pi ?_
  refine kk_iload_n (pc := 21) hX dX7_does_21 rfl ?_
  refine kk_callU (pc := 22) hX (owner := "BranchCells$Values") (v_VnumX31 X.1 _ _ _ _ (β + 5000 + 20 * t + 7) (β + 5000 + 20 * t + 8) (β + 5000 + 20 * t + 9) 12 hk.k.k7 hk.l.p0 hk.l.p1 hk.k.k8 hk.k.k9 (by decide) (nv (σ.1 32 t) - 1) _ (by omega) ((hk.c.ph _ (by omega)).trans (if_neg hfy)) q hq7) dX7_does_22 (lw_meth q1083) ⟨q1078, q1079, q1081, q1082, q91, jj_inT q1080 rfl⟩ ⟨by decide +kernel, by decide +kernel, by show _ = some (1 : Nat); decide +kernel⟩ ⟨Nat.le_of_ble_eq_true rfl, Nat.le_of_ble_eq_true rfl, Nat.le_of_ble_eq_true rfl, Nat.le_of_ble_eq_true rfl, Nat.le_of_ble_eq_true rfl⟩ (fun _ => hF rfl) hk.k.k7 jc_31 rfl jj_knp (jj_kth ?_)
  exact kk_out (pc := 22) hX hN ⟨Nat.le_refl _, Nat.le_refl _⟩ (⟨rfl, jj_us, (cr_rel.gar h4 hq7.1 hq9 (fun b hb => jj_tn hb) (fun b hb => (jj_ua hb).trans (jj_zn hb)) (fun b hb => jj_zn hb) (fun b hb => (jj_ua hb).trans ((jj_ua hb).trans ((jj_ua hb).trans ((jj_ua hb).trans ((jj_ua hb).trans ((jj_ua hb).trans ((jj_ua hb).trans (jj_zn hb)))))))))⟩)

theorem v_do9Z (G : jj_G) (τ : jj_T) (I : jj_I) (L : jj_L) (r : jj_R) {β : Nat} {ss : List Nat} {e N : Nat → Nat} {ρ : jm} {σ : jm} {t : Nat} (h : cr_rel β ss e N ρ (cr_pl (σ.1 14) t (σ.1 14 t + 1)) σ τ I L r) (hv : m_inv σ) (ht : t < nv (σ.1 0 11)) (h0 : σ.1 15 t = 0) (a : Int32) (h2 : 2 ≤ nv (σ.1 32 t)) (hfy : σ.1 31 (12 * t + (nv (σ.1 32 t) - 1)) = 0) (hfx : ¬ σ.1 31 (12 * t + (nv (σ.1 32 t) - 1 - 1)) = 0) (q : Nat) (hq7 : τ q = none ∧ ¬ (1 ≤ q ∧ q ≤ 6)) (hq9 : β + 10000 ≤ q) : kk_M G yX7_does (ws_ yX7_does cX7_does 7 none) { frames := 6, cells := 1, slots := 7, locals := 134 } [jR (some 29), jR (some (β + 5000 + 20 * t)), jI a] true τ I L r jj_noP (fun a τ' I' L' r' => a = q ∧ I' q 6 = 2 ∧ cr_rel β ss e N ρ (cr_pl (σ.1 14) t (σ.1 14 t + 1)) (m_s2 t 2 σ) τ' I' L' r') := by
  refine kk_intro "BranchCells$Reckoner" (by decide) rfl (Nat.le_of_ble_eq_true rfl) ?_
  intro X hG hX hr hN hC hF hAd
  have hk := h.tk t ht
  have hT := hv.T
  have hp9 := (hv.tk t ht).po.1
  have hq := hp9.1
  have hp12 := hp9.2
  have hs9 := (hv.tk t ht).pr.2
  have hn4 : ¬ σ.1 22 t = -4 := by rw [(hv.tk t ht).pr.1]; exact nI_n4 (by have := hv.S; omega)
  have hs := h.sg _ hs9
  refine kk_aload_n (pc := 0) hX dX7_does_0 rfl ?_
  refine kk_getR (pc := 1) hX (x := some (β + 5000 + 20 * t + 7)) fl_X7_13_29 dX7_does_1 hk.k.k0 rfl hk.l.pi ?_
  refine kk_callV (pc := 4) hX (v_ctake X.1 _ _ _ _ h ht hq (by omega)) dX7_does_4 (lw_V q1074 q1075 q1076 q92 q1077) rfl ⟨by decide +kernel, by decide +kernel, by show _ = some (0 : Nat); decide +kernel⟩ ⟨Nat.le_of_ble_eq_true rfl, Nat.le_of_ble_eq_true rfl, Nat.le_of_ble_eq_true rfl, Nat.le_of_ble_eq_true rfl, Nat.le_of_ble_eq_true rfl⟩ (fun q => by cases q) hk.k.k7 jc_31 rfl (fun _ _ I3 _ _ hP => ?_) jj_kno
  obtain ⟨rfl, rfl, rfl, rfl,  h3⟩ := hP
  have hk3 := h3.tk t ht
  refine kk_istore_n (pc := 7) hX dX7_does_7 (by decide) ?_
  refine kk_aload_n (pc := 8) hX dX7_does_8 rfl ?_
  refine kk_getR (pc := 9) hX (x := some (β + 5000 + 20 * t + 7)) fl_X7_13_29 dX7_does_9 hk.k.k0 rfl hk3.l.pi ?_
  refine kk_callV (pc := 12) hX (v_ctake X.1 _ _ _ _ h3 ht (s2_v1 hq (by omega) hp9.2).2 (by rw [(s2_v1 hq (by omega) hp9.2).1]; omega)) dX7_does_12 (lw_V q1074 q1075 q1076 q92 q1077) rfl ⟨by decide +kernel, by decide +kernel, by show _ = some (0 : Nat); decide +kernel⟩ ⟨Nat.le_of_ble_eq_true rfl, Nat.le_of_ble_eq_true rfl, Nat.le_of_ble_eq_true rfl, Nat.le_of_ble_eq_true rfl, Nat.le_of_ble_eq_true rfl⟩ (fun q => by cases q) hk.k.k7 jc_31 rfl (fun _ _ I4 _ _ hP => ?_) jj_kno
  obtain ⟨rfl, rfl, rfl, rfl,  h4⟩ := hP
  rw [s2_2 hq h2 hp9.2] at h4
  have hk4 := h4.tk t ht
  refine kk_top (nI (nv (σ.1 32 t) - 1 - 1)) (by rw [(s2_v1 hq (by omega) hp9.2).1]) ?_
  refine kk_istore (pc := 15) hX dX7_does_15 (by decide) ?_
  refine kk_aload_n (pc := 17) hX dX7_does_17 rfl ?_
  refine kk_getR (pc := 18) hX (x := some (β + 5000 + 20 * t + 7)) fl_X7_13_29 dX7_does_18 hk.k.k0 rfl hk4.l.pi ?_
  refine kk_iload_n (pc := 21) hX dX7_does_21 rfl ?_
  refine kk_callU (pc := 22) hX (owner := "BranchCells$Values") (v_Vnum31 X.1 _ _ _ _ (β + 5000 + 20 * t + 7) (β + 5000 + 20 * t + 8) (β + 5000 + 20 * t + 9) 12 hk.k.k7 hk.l.p0 hk.l.p1 hk.k.k8 hk.k.k9 (by decide) (nv (σ.1 32 t) - 1) (by omega) ((hk.c.ph _ (by omega)).trans (if_pos hfy))) dX7_does_22 (lw_meth q1083) ⟨q1078, q1079, q1081, q1082, q91, jj_inT q1080 rfl⟩ ⟨by decide +kernel, by decide +kernel, by show _ = some (1 : Nat); decide +kernel⟩ ⟨Nat.le_of_ble_eq_true rfl, Nat.le_of_ble_eq_true rfl, Nat.le_of_ble_eq_true rfl, Nat.le_of_ble_eq_true rfl, Nat.le_of_ble_eq_true rfl⟩ (fun q => by cases q) hk.k.k7 jc_31 rfl (jj_keq ?_) jj_kno
  refine kk_topL (σ.2 30 (12 * t + (nv (σ.1 32 t) - 1))) ((hk.c.pn _ (by omega)).trans (if_pos hfy)) ?_
  refine kk_lstore (pc := 25) hX dX7_does_25 (by decide) ?_
  refine kk_aload_n (pc := 27) hX dX7_does_27 rfl ?_
  refine kk_aload_n (pc := 28) hX dX7_does_28 rfl ?_
  refine kk_aload_n (pc := 29) hX dX7_does_29 rfl ?_
  refine kk_getR (pc := 30) hX (x := some (β + 5000 + 20 * t + 7)) fl_X7_13_29 dX7_does_30 hk.k.k0 rfl hk4.l.pi ?_
  refine kk_iload (pc := 33) hX dX7_does_33 rfl ?_
  refine kk_callU (pc := 35) hX (owner := "BranchCells$Values") (v_VnumX31 X.1 _ _ _ _ (β + 5000 + 20 * t + 7) (β + 5000 + 20 * t + 8) (β + 5000 + 20 * t + 9) 12 hk.k.k7 hk.l.p0 hk.l.p1 hk.k.k8 hk.k.k9 (by decide) (nv (σ.1 32 t) - 1 - 1) _ (by omega) ((hk.c.ph _ (by omega)).trans (if_neg hfx)) q hq7) dX7_does_35 (lw_meth q1083) ⟨q1078, q1079, q1081, q1082, q91, jj_inT q1080 rfl⟩ ⟨by decide +kernel, by decide +kernel, by show _ = some (1 : Nat); decide +kernel⟩ ⟨Nat.le_of_ble_eq_true rfl, Nat.le_of_ble_eq_true rfl, Nat.le_of_ble_eq_true rfl, Nat.le_of_ble_eq_true rfl, Nat.le_of_ble_eq_true rfl⟩ (fun _ => hF rfl) hk.k.k7 jc_31 rfl jj_knp (jj_kth ?_)
  exact kk_out (pc := 35) hX hN ⟨Nat.le_refl _, Nat.le_refl _⟩ (⟨rfl, jj_us, (cr_rel.gar h4 hq7.1 hq9 (fun b hb => jj_tn hb) (fun b hb => (jj_ua hb).trans (jj_zn hb)) (fun b hb => jj_zn hb) (fun b hb => (jj_ua hb).trans ((jj_ua hb).trans ((jj_ua hb).trans ((jj_ua hb).trans ((jj_ua hb).trans ((jj_ua hb).trans ((jj_ua hb).trans (jj_zn hb)))))))))⟩)

theorem v_do10 (G : jj_G) (τ : jj_T) (I : jj_I) (L : jj_L) (r : jj_R) {β : Nat} {ss : List Nat} {e N : Nat → Nat} {ρ : jm} {σ : jm} {t : Nat} (h : cr_rel β ss e N ρ (cr_pl (σ.1 14) t (σ.1 14 t + 1)) σ τ I L r) (hv : m_inv σ) (ht : t < nv (σ.1 0 11)) (h0 : σ.1 15 t = 0) (a : Int32) (h2 : 2 ≤ nv (σ.1 32 t)) (hfy : σ.1 31 (12 * t + (nv (σ.1 32 t) - 1)) = 0) (hfx : σ.1 31 (12 * t + (nv (σ.1 32 t) - 1 - 1)) = 0) : kk_M G yX7_does (ws_ yX7_does cX7_does 7 none) { frames := 6, cells := 0, slots := 0, locals := 134 } [jR (some 30), jR (some (β + 5000 + 20 * t)), jI a] false τ I L r (fun v' τ' I' L' r' => v' = none ∧ τ' = τ ∧ cr_rel β ss e N ρ (cr_pl (σ.1 14) t (σ.1 14 t + 1)) (m_push t ((σ.2 30 (12 * t + (nv (σ.1 32 t) - 1 - 1))) &&& (σ.2 30 (12 * t + (nv (σ.1 32 t) - 1)))) 0 (m_s2 t 2 σ)) τ I' L' r') jj_no := by
  refine kk_intro "BranchCells$Reckoner" (by decide) rfl (Nat.le_of_ble_eq_true rfl) ?_
  intro X hG hX hr hN hC hF hAd
  have hk := h.tk t ht
  have hT := hv.T
  have hp9 := (hv.tk t ht).po.1
  have hq := hp9.1
  have hp12 := hp9.2
  have hs9 := (hv.tk t ht).pr.2
  have hn4 : ¬ σ.1 22 t = -4 := by rw [(hv.tk t ht).pr.1]; exact nI_n4 (by have := hv.S; omega)
  have hs := h.sg _ hs9
  refine kk_aload_n (pc := 0) hX dX7_does_0 rfl ?_
  refine kk_getR (pc := 1) hX (x := some (β + 5000 + 20 * t + 7)) fl_X7_13_29 dX7_does_1 hk.k.k0 rfl hk.l.pi ?_
  refine kk_callV (pc := 4) hX (v_ctake X.1 _ _ _ _ h ht hq (by omega)) dX7_does_4 (lw_V q1074 q1075 q1076 q92 q1077) rfl ⟨by decide +kernel, by decide +kernel, by show _ = some (0 : Nat); decide +kernel⟩ ⟨Nat.le_of_ble_eq_true rfl, Nat.le_of_ble_eq_true rfl, Nat.le_of_ble_eq_true rfl, Nat.le_of_ble_eq_true rfl, Nat.le_of_ble_eq_true rfl⟩ (fun q => by cases q) hk.k.k7 jc_31 rfl (fun _ _ I3 _ _ hP => ?_) jj_kno
  obtain ⟨rfl, rfl, rfl, rfl,  h3⟩ := hP
  have hk3 := h3.tk t ht
  refine kk_istore_n (pc := 7) hX dX7_does_7 (by decide) ?_
  refine kk_aload_n (pc := 8) hX dX7_does_8 rfl ?_
  refine kk_getR (pc := 9) hX (x := some (β + 5000 + 20 * t + 7)) fl_X7_13_29 dX7_does_9 hk.k.k0 rfl hk3.l.pi ?_
  refine kk_callV (pc := 12) hX (v_ctake X.1 _ _ _ _ h3 ht (s2_v1 hq (by omega) hp9.2).2 (by rw [(s2_v1 hq (by omega) hp9.2).1]; omega)) dX7_does_12 (lw_V q1074 q1075 q1076 q92 q1077) rfl ⟨by decide +kernel, by decide +kernel, by show _ = some (0 : Nat); decide +kernel⟩ ⟨Nat.le_of_ble_eq_true rfl, Nat.le_of_ble_eq_true rfl, Nat.le_of_ble_eq_true rfl, Nat.le_of_ble_eq_true rfl, Nat.le_of_ble_eq_true rfl⟩ (fun q => by cases q) hk.k.k7 jc_31 rfl (fun _ _ I4 _ _ hP => ?_) jj_kno
  obtain ⟨rfl, rfl, rfl, rfl,  h4⟩ := hP
  rw [s2_2 hq h2 hp9.2] at h4
  have hk4 := h4.tk t ht
  refine kk_top (nI (nv (σ.1 32 t) - 1 - 1)) (by rw [(s2_v1 hq (by omega) hp9.2).1]) ?_
  refine kk_istore (pc := 15) hX dX7_does_15 (by decide) ?_
  refine kk_aload_n (pc := 17) hX dX7_does_17 rfl ?_
  refine kk_getR (pc := 18) hX (x := some (β + 5000 + 20 * t + 7)) fl_X7_13_29 dX7_does_18 hk.k.k0 rfl hk4.l.pi ?_
  refine kk_iload_n (pc := 21) hX dX7_does_21 rfl ?_
  refine kk_callU (pc := 22) hX (owner := "BranchCells$Values") (v_Vnum31 X.1 _ _ _ _ (β + 5000 + 20 * t + 7) (β + 5000 + 20 * t + 8) (β + 5000 + 20 * t + 9) 12 hk.k.k7 hk.l.p0 hk.l.p1 hk.k.k8 hk.k.k9 (by decide) (nv (σ.1 32 t) - 1) (by omega) ((hk.c.ph _ (by omega)).trans (if_pos hfy))) dX7_does_22 (lw_meth q1083) ⟨q1078, q1079, q1081, q1082, q91, jj_inT q1080 rfl⟩ ⟨by decide +kernel, by decide +kernel, by show _ = some (1 : Nat); decide +kernel⟩ ⟨Nat.le_of_ble_eq_true rfl, Nat.le_of_ble_eq_true rfl, Nat.le_of_ble_eq_true rfl, Nat.le_of_ble_eq_true rfl, Nat.le_of_ble_eq_true rfl⟩ (fun q => by cases q) hk.k.k7 jc_31 rfl (jj_keq ?_) jj_kno
  refine kk_topL (σ.2 30 (12 * t + (nv (σ.1 32 t) - 1))) ((hk.c.pn _ (by omega)).trans (if_pos hfy)) ?_
  refine kk_lstore (pc := 25) hX dX7_does_25 (by decide) ?_
  refine kk_aload_n (pc := 27) hX dX7_does_27 rfl ?_
  refine kk_aload_n (pc := 28) hX dX7_does_28 rfl ?_
  refine kk_aload_n (pc := 29) hX dX7_does_29 rfl ?_
  refine kk_getR (pc := 30) hX (x := some (β + 5000 + 20 * t + 7)) fl_X7_13_29 dX7_does_30 hk.k.k0 rfl hk4.l.pi ?_
  refine kk_iload (pc := 33) hX dX7_does_33 rfl ?_
  refine kk_callU (pc := 35) hX (owner := "BranchCells$Values") (v_Vnum31 X.1 _ _ _ _ (β + 5000 + 20 * t + 7) (β + 5000 + 20 * t + 8) (β + 5000 + 20 * t + 9) 12 hk.k.k7 hk.l.p0 hk.l.p1 hk.k.k8 hk.k.k9 (by decide) (nv (σ.1 32 t) - 1 - 1) (by omega) ((hk.c.ph _ (by omega)).trans (if_pos hfx))) dX7_does_35 (lw_meth q1083) ⟨q1078, q1079, q1081, q1082, q91, jj_inT q1080 rfl⟩ ⟨by decide +kernel, by decide +kernel, by show _ = some (1 : Nat); decide +kernel⟩ ⟨Nat.le_of_ble_eq_true rfl, Nat.le_of_ble_eq_true rfl, Nat.le_of_ble_eq_true rfl, Nat.le_of_ble_eq_true rfl, Nat.le_of_ble_eq_true rfl⟩ (fun q => by cases q) hk.k.k7 jc_31 rfl (jj_keq ?_) jj_kno
  refine kk_topL (σ.2 30 (12 * t + (nv (σ.1 32 t) - 1 - 1))) ((hk.c.pn _ (by omega)).trans (if_pos hfx)) ?_
  refine kk_lload (pc := 38) hX dX7_does_38 rfl ?_
  refine kk_callU (pc := 40) hX (owner := "BranchCells$Reckoner") (v_of10 X.1 _ _ _ _ 30 (σ.2 30 (12 * t + (nv (σ.1 32 t) - 1 - 1))) (σ.2 30 (12 * t + (nv (σ.1 32 t) - 1)))) dX7_does_40 (lw_meth q1094) ⟨q1086, q1088, q1092, q1093, q66, jj_inT q1087 rfl⟩ ⟨by decide +kernel, by decide +kernel, by show _ = some (2 : Nat); decide +kernel⟩ ⟨Nat.le_of_ble_eq_true rfl, Nat.le_of_ble_eq_true rfl, Nat.le_of_ble_eq_true rfl, Nat.le_of_ble_eq_true rfl, Nat.le_of_ble_eq_true rfl⟩ (fun q => by cases q) (h.ro.dd 10 (by decide)).k0 jc_13 rfl (jj_keq ?_) jj_kno
  refine kk_callV (pc := 43) hX (v_cTput X.1 _ _ _ _ h4 ht (s2_v2 hq h2 hp9.2).2 ((σ.2 30 (12 * t + (nv (σ.1 32 t) - 1 - 1))) &&& (σ.2 30 (12 * t + (nv (σ.1 32 t) - 1)))) (by rw [(s2_v2 hq h2 hp9.2).1]; omega)) dX7_does_43 (lw_V q1112 q1058 q1059 q88 q1060) rfl ⟨by decide +kernel, by decide +kernel, by show _ = some (1 : Nat); decide +kernel⟩ ⟨Nat.le_of_ble_eq_true rfl, Nat.le_of_ble_eq_true rfl, Nat.le_of_ble_eq_true rfl, Nat.le_of_ble_eq_true rfl, Nat.le_of_ble_eq_true rfl⟩ (fun q => by cases q) hk.k.k0 jc_29 rfl (fun _ _ I5 L5 r5 hP => ?_) jj_kno
  obtain ⟨rfl, rfl,  h5⟩ := hP
  exact kk_vret (pc := 46) hX dX7_does_46 hr ⟨Nat.le_refl _, Nat.le_refl _⟩ (⟨rfl, rfl, h5⟩)

theorem v_do10X (G : jj_G) (τ : jj_T) (I : jj_I) (L : jj_L) (r : jj_R) {β : Nat} {ss : List Nat} {e N : Nat → Nat} {ρ : jm} {σ : jm} {t : Nat} (h : cr_rel β ss e N ρ (cr_pl (σ.1 14) t (σ.1 14 t + 1)) σ τ I L r) (hv : m_inv σ) (ht : t < nv (σ.1 0 11)) (h0 : σ.1 15 t = 0) (a : Int32) (h2 : 2 ≤ nv (σ.1 32 t)) (hfy : ¬ σ.1 31 (12 * t + (nv (σ.1 32 t) - 1)) = 0) (q : Nat) (hq7 : τ q = none ∧ ¬ (1 ≤ q ∧ q ≤ 6)) (hq9 : β + 10000 ≤ q) : kk_M G yX7_does (ws_ yX7_does cX7_does 7 none) { frames := 6, cells := 1, slots := 7, locals := 134 } [jR (some 30), jR (some (β + 5000 + 20 * t)), jI a] true τ I L r jj_noP (fun a τ' I' L' r' => a = q ∧ I' q 6 = 2 ∧ cr_rel β ss e N ρ (cr_pl (σ.1 14) t (σ.1 14 t + 1)) (m_s2 t 2 σ) τ' I' L' r') := by
  refine kk_intro "BranchCells$Reckoner" (by decide) rfl (Nat.le_of_ble_eq_true rfl) ?_
  intro X hG hX hr hN hC hF hAd
  have hk := h.tk t ht
  have hT := hv.T
  have hp9 := (hv.tk t ht).po.1
  have hq := hp9.1
  have hp12 := hp9.2
  have hs9 := (hv.tk t ht).pr.2
  have hn4 : ¬ σ.1 22 t = -4 := by rw [(hv.tk t ht).pr.1]; exact nI_n4 (by have := hv.S; omega)
  have hs := h.sg _ hs9
  refine kk_aload_n (pc := 0) hX dX7_does_0 rfl ?_
  refine kk_getR (pc := 1) hX (x := some (β + 5000 + 20 * t + 7)) fl_X7_13_29 dX7_does_1 hk.k.k0 rfl hk.l.pi ?_
  refine kk_callV (pc := 4) hX (v_ctake X.1 _ _ _ _ h ht hq (by omega)) dX7_does_4 (lw_V q1074 q1075 q1076 q92 q1077) rfl ⟨by decide +kernel, by decide +kernel, by show _ = some (0 : Nat); decide +kernel⟩ ⟨Nat.le_of_ble_eq_true rfl, Nat.le_of_ble_eq_true rfl, Nat.le_of_ble_eq_true rfl, Nat.le_of_ble_eq_true rfl, Nat.le_of_ble_eq_true rfl⟩ (fun q => by cases q) hk.k.k7 jc_31 rfl (fun _ _ I3 _ _ hP => ?_) jj_kno
  obtain ⟨rfl, rfl, rfl, rfl,  h3⟩ := hP
  have hk3 := h3.tk t ht
  refine kk_istore_n (pc := 7) hX dX7_does_7 (by decide) ?_
  refine kk_aload_n (pc := 8) hX dX7_does_8 rfl ?_
  refine kk_getR (pc := 9) hX (x := some (β + 5000 + 20 * t + 7)) fl_X7_13_29 dX7_does_9 hk.k.k0 rfl hk3.l.pi ?_
  refine kk_callV (pc := 12) hX (v_ctake X.1 _ _ _ _ h3 ht (s2_v1 hq (by omega) hp9.2).2 (by rw [(s2_v1 hq (by omega) hp9.2).1]; omega)) dX7_does_12 (lw_V q1074 q1075 q1076 q92 q1077) rfl ⟨by decide +kernel, by decide +kernel, by show _ = some (0 : Nat); decide +kernel⟩ ⟨Nat.le_of_ble_eq_true rfl, Nat.le_of_ble_eq_true rfl, Nat.le_of_ble_eq_true rfl, Nat.le_of_ble_eq_true rfl, Nat.le_of_ble_eq_true rfl⟩ (fun q => by cases q) hk.k.k7 jc_31 rfl (fun _ _ I4 _ _ hP => ?_) jj_kno
  obtain ⟨rfl, rfl, rfl, rfl,  h4⟩ := hP
  rw [s2_2 hq h2 hp9.2] at h4
  have hk4 := h4.tk t ht
  refine kk_top (nI (nv (σ.1 32 t) - 1 - 1)) (by rw [(s2_v1 hq (by omega) hp9.2).1]) ?_
  refine kk_istore (pc := 15) hX dX7_does_15 (by decide) ?_
  refine kk_aload_n (pc := 17) hX dX7_does_17 rfl ?_
  refine kk_getR (pc := 18) hX (x := some (β + 5000 + 20 * t + 7)) fl_X7_13_29 dX7_does_18 hk.k.k0 rfl hk4.l.pi ?_
  refine kk_iload_n (pc := 21) hX dX7_does_21 rfl ?_
  refine kk_callU (pc := 22) hX (owner := "BranchCells$Values") (v_VnumX31 X.1 _ _ _ _ (β + 5000 + 20 * t + 7) (β + 5000 + 20 * t + 8) (β + 5000 + 20 * t + 9) 12 hk.k.k7 hk.l.p0 hk.l.p1 hk.k.k8 hk.k.k9 (by decide) (nv (σ.1 32 t) - 1) _ (by omega) ((hk.c.ph _ (by omega)).trans (if_neg hfy)) q hq7) dX7_does_22 (lw_meth q1083) ⟨q1078, q1079, q1081, q1082, q91, jj_inT q1080 rfl⟩ ⟨by decide +kernel, by decide +kernel, by show _ = some (1 : Nat); decide +kernel⟩ ⟨Nat.le_of_ble_eq_true rfl, Nat.le_of_ble_eq_true rfl, Nat.le_of_ble_eq_true rfl, Nat.le_of_ble_eq_true rfl, Nat.le_of_ble_eq_true rfl⟩ (fun _ => hF rfl) hk.k.k7 jc_31 rfl jj_knp (jj_kth ?_)
  exact kk_out (pc := 22) hX hN ⟨Nat.le_refl _, Nat.le_refl _⟩ (⟨rfl, jj_us, (cr_rel.gar h4 hq7.1 hq9 (fun b hb => jj_tn hb) (fun b hb => (jj_ua hb).trans (jj_zn hb)) (fun b hb => jj_zn hb) (fun b hb => (jj_ua hb).trans ((jj_ua hb).trans ((jj_ua hb).trans ((jj_ua hb).trans ((jj_ua hb).trans ((jj_ua hb).trans ((jj_ua hb).trans (jj_zn hb)))))))))⟩)

theorem v_do10Z (G : jj_G) (τ : jj_T) (I : jj_I) (L : jj_L) (r : jj_R) {β : Nat} {ss : List Nat} {e N : Nat → Nat} {ρ : jm} {σ : jm} {t : Nat} (h : cr_rel β ss e N ρ (cr_pl (σ.1 14) t (σ.1 14 t + 1)) σ τ I L r) (hv : m_inv σ) (ht : t < nv (σ.1 0 11)) (h0 : σ.1 15 t = 0) (a : Int32) (h2 : 2 ≤ nv (σ.1 32 t)) (hfy : σ.1 31 (12 * t + (nv (σ.1 32 t) - 1)) = 0) (hfx : ¬ σ.1 31 (12 * t + (nv (σ.1 32 t) - 1 - 1)) = 0) (q : Nat) (hq7 : τ q = none ∧ ¬ (1 ≤ q ∧ q ≤ 6)) (hq9 : β + 10000 ≤ q) : kk_M G yX7_does (ws_ yX7_does cX7_does 7 none) { frames := 6, cells := 1, slots := 7, locals := 134 } [jR (some 30), jR (some (β + 5000 + 20 * t)), jI a] true τ I L r jj_noP (fun a τ' I' L' r' => a = q ∧ I' q 6 = 2 ∧ cr_rel β ss e N ρ (cr_pl (σ.1 14) t (σ.1 14 t + 1)) (m_s2 t 2 σ) τ' I' L' r') := by
  refine kk_intro "BranchCells$Reckoner" (by decide) rfl (Nat.le_of_ble_eq_true rfl) ?_
  intro X hG hX hr hN hC hF hAd
  have hk := h.tk t ht
  have hT := hv.T
  have hp9 := (hv.tk t ht).po.1
  have hq := hp9.1
  have hp12 := hp9.2
  have hs9 := (hv.tk t ht).pr.2
  have hn4 : ¬ σ.1 22 t = -4 := by rw [(hv.tk t ht).pr.1]; exact nI_n4 (by have := hv.S; omega)
  have hs := h.sg _ hs9
  refine kk_aload_n (pc := 0) hX dX7_does_0 rfl ?_
  refine kk_getR (pc := 1) hX (x := some (β + 5000 + 20 * t + 7)) fl_X7_13_29 dX7_does_1 hk.k.k0 rfl hk.l.pi ?_
  refine kk_callV (pc := 4) hX (v_ctake X.1 _ _ _ _ h ht hq (by omega)) dX7_does_4 (lw_V q1074 q1075 q1076 q92 q1077) rfl ⟨by decide +kernel, by decide +kernel, by show _ = some (0 : Nat); decide +kernel⟩ ⟨Nat.le_of_ble_eq_true rfl, Nat.le_of_ble_eq_true rfl, Nat.le_of_ble_eq_true rfl, Nat.le_of_ble_eq_true rfl, Nat.le_of_ble_eq_true rfl⟩ (fun q => by cases q) hk.k.k7 jc_31 rfl (fun _ _ I3 _ _ hP => ?_) jj_kno
  obtain ⟨rfl, rfl, rfl, rfl,  h3⟩ := hP
  have hk3 := h3.tk t ht
  refine kk_istore_n (pc := 7) hX dX7_does_7 (by decide) ?_
  refine kk_aload_n (pc := 8) hX dX7_does_8 rfl ?_
  refine kk_getR (pc := 9) hX (x := some (β + 5000 + 20 * t + 7)) fl_X7_13_29 dX7_does_9 hk.k.k0 rfl hk3.l.pi ?_
  refine kk_callV (pc := 12) hX (v_ctake X.1 _ _ _ _ h3 ht (s2_v1 hq (by omega) hp9.2).2 (by rw [(s2_v1 hq (by omega) hp9.2).1]; omega)) dX7_does_12 (lw_V q1074 q1075 q1076 q92 q1077) rfl ⟨by decide +kernel, by decide +kernel, by show _ = some (0 : Nat); decide +kernel⟩ ⟨Nat.le_of_ble_eq_true rfl, Nat.le_of_ble_eq_true rfl, Nat.le_of_ble_eq_true rfl, Nat.le_of_ble_eq_true rfl, Nat.le_of_ble_eq_true rfl⟩ (fun q => by cases q) hk.k.k7 jc_31 rfl (fun _ _ I4 _ _ hP => ?_) jj_kno
  obtain ⟨rfl, rfl, rfl, rfl,  h4⟩ := hP
  rw [s2_2 hq h2 hp9.2] at h4
  have hk4 := h4.tk t ht
  refine kk_top (nI (nv (σ.1 32 t) - 1 - 1)) (by rw [(s2_v1 hq (by omega) hp9.2).1]) ?_
  refine kk_istore (pc := 15) hX dX7_does_15 (by decide) ?_
  refine kk_aload_n (pc := 17) hX dX7_does_17 rfl ?_
  refine kk_getR (pc := 18) hX (x := some (β + 5000 + 20 * t + 7)) fl_X7_13_29 dX7_does_18 hk.k.k0 rfl hk4.l.pi ?_
  refine kk_iload_n (pc := 21) hX dX7_does_21 rfl ?_
  refine kk_callU (pc := 22) hX (owner := "BranchCells$Values") (v_Vnum31 X.1 _ _ _ _ (β + 5000 + 20 * t + 7) (β + 5000 + 20 * t + 8) (β + 5000 + 20 * t + 9) 12 hk.k.k7 hk.l.p0 hk.l.p1 hk.k.k8 hk.k.k9 (by decide) (nv (σ.1 32 t) - 1) (by omega) ((hk.c.ph _ (by omega)).trans (if_pos hfy))) dX7_does_22 (lw_meth q1083) ⟨q1078, q1079, q1081, q1082, q91, jj_inT q1080 rfl⟩ ⟨by decide +kernel, by decide +kernel, by show _ = some (1 : Nat); decide +kernel⟩ ⟨Nat.le_of_ble_eq_true rfl, Nat.le_of_ble_eq_true rfl, Nat.le_of_ble_eq_true rfl, Nat.le_of_ble_eq_true rfl, Nat.le_of_ble_eq_true rfl⟩ (fun q => by cases q) hk.k.k7 jc_31 rfl (jj_keq ?_) jj_kno
  refine kk_topL (σ.2 30 (12 * t + (nv (σ.1 32 t) - 1))) ((hk.c.pn _ (by omega)).trans (if_pos hfy)) ?_
  refine kk_lstore (pc := 25) hX dX7_does_25 (by decide) ?_
  refine kk_aload_n (pc := 27) hX dX7_does_27 rfl ?_
  refine kk_aload_n (pc := 28) hX dX7_does_28 rfl ?_
  refine kk_aload_n (pc := 29) hX dX7_does_29 rfl ?_
  refine kk_getR (pc := 30) hX (x := some (β + 5000 + 20 * t + 7)) fl_X7_13_29 dX7_does_30 hk.k.k0 rfl hk4.l.pi ?_
  refine kk_iload (pc := 33) hX dX7_does_33 rfl ?_
  refine kk_callU (pc := 35) hX (owner := "BranchCells$Values") (v_VnumX31 X.1 _ _ _ _ (β + 5000 + 20 * t + 7) (β + 5000 + 20 * t + 8) (β + 5000 + 20 * t + 9) 12 hk.k.k7 hk.l.p0 hk.l.p1 hk.k.k8 hk.k.k9 (by decide) (nv (σ.1 32 t) - 1 - 1) _ (by omega) ((hk.c.ph _ (by omega)).trans (if_neg hfx)) q hq7) dX7_does_35 (lw_meth q1083) ⟨q1078, q1079, q1081, q1082, q91, jj_inT q1080 rfl⟩ ⟨by decide +kernel, by decide +kernel, by show _ = some (1 : Nat); decide +kernel⟩ ⟨Nat.le_of_ble_eq_true rfl, Nat.le_of_ble_eq_true rfl, Nat.le_of_ble_eq_true rfl, Nat.le_of_ble_eq_true rfl, Nat.le_of_ble_eq_true rfl⟩ (fun _ => hF rfl) hk.k.k7 jc_31 rfl jj_knp (jj_kth ?_)
  exact kk_out (pc := 35) hX hN ⟨Nat.le_refl _, Nat.le_refl _⟩ (⟨rfl, jj_us, (cr_rel.gar h4 hq7.1 hq9 (fun b hb => jj_tn hb) (fun b hb => (jj_ua hb).trans (jj_zn hb)) (fun b hb => jj_zn hb) (fun b hb => (jj_ua hb).trans ((jj_ua hb).trans ((jj_ua hb).trans ((jj_ua hb).trans ((jj_ua hb).trans ((jj_ua hb).trans ((jj_ua hb).trans (jj_zn hb)))))))))⟩)

theorem v_do11 (G : jj_G) (τ : jj_T) (I : jj_I) (L : jj_L) (r : jj_R) {β : Nat} {ss : List Nat} {e N : Nat → Nat} {ρ : jm} {σ : jm} {t : Nat} (h : cr_rel β ss e N ρ (cr_pl (σ.1 14) t (σ.1 14 t + 1)) σ τ I L r) (hv : m_inv σ) (ht : t < nv (σ.1 0 11)) (h0 : σ.1 15 t = 0) (a : Int32) (h2 : 2 ≤ nv (σ.1 32 t)) (hfy : σ.1 31 (12 * t + (nv (σ.1 32 t) - 1)) = 0) (hfx : σ.1 31 (12 * t + (nv (σ.1 32 t) - 1 - 1)) = 0) : kk_M G yX7_does (ws_ yX7_does cX7_does 7 none) { frames := 6, cells := 0, slots := 0, locals := 134 } [jR (some 31), jR (some (β + 5000 + 20 * t)), jI a] false τ I L r (fun v' τ' I' L' r' => v' = none ∧ τ' = τ ∧ cr_rel β ss e N ρ (cr_pl (σ.1 14) t (σ.1 14 t + 1)) (m_push t ((σ.2 30 (12 * t + (nv (σ.1 32 t) - 1 - 1))) ||| (σ.2 30 (12 * t + (nv (σ.1 32 t) - 1)))) 0 (m_s2 t 2 σ)) τ I' L' r') jj_no := by
  refine kk_intro "BranchCells$Reckoner" (by decide) rfl (Nat.le_of_ble_eq_true rfl) ?_
  intro X hG hX hr hN hC hF hAd
  have hk := h.tk t ht
  have hT := hv.T
  have hp9 := (hv.tk t ht).po.1
  have hq := hp9.1
  have hp12 := hp9.2
  have hs9 := (hv.tk t ht).pr.2
  have hn4 : ¬ σ.1 22 t = -4 := by rw [(hv.tk t ht).pr.1]; exact nI_n4 (by have := hv.S; omega)
  have hs := h.sg _ hs9
  refine kk_aload_n (pc := 0) hX dX7_does_0 rfl ?_
  refine kk_getR (pc := 1) hX (x := some (β + 5000 + 20 * t + 7)) fl_X7_13_29 dX7_does_1 hk.k.k0 rfl hk.l.pi ?_
  refine kk_callV (pc := 4) hX (v_ctake X.1 _ _ _ _ h ht hq (by omega)) dX7_does_4 (lw_V q1074 q1075 q1076 q92 q1077) rfl ⟨by decide +kernel, by decide +kernel, by show _ = some (0 : Nat); decide +kernel⟩ ⟨Nat.le_of_ble_eq_true rfl, Nat.le_of_ble_eq_true rfl, Nat.le_of_ble_eq_true rfl, Nat.le_of_ble_eq_true rfl, Nat.le_of_ble_eq_true rfl⟩ (fun q => by cases q) hk.k.k7 jc_31 rfl (fun _ _ I3 _ _ hP => ?_) jj_kno
  obtain ⟨rfl, rfl, rfl, rfl,  h3⟩ := hP
  have hk3 := h3.tk t ht
  refine kk_istore_n (pc := 7) hX dX7_does_7 (by decide) ?_
  refine kk_aload_n (pc := 8) hX dX7_does_8 rfl ?_
  refine kk_getR (pc := 9) hX (x := some (β + 5000 + 20 * t + 7)) fl_X7_13_29 dX7_does_9 hk.k.k0 rfl hk3.l.pi ?_
  refine kk_callV (pc := 12) hX (v_ctake X.1 _ _ _ _ h3 ht (s2_v1 hq (by omega) hp9.2).2 (by rw [(s2_v1 hq (by omega) hp9.2).1]; omega)) dX7_does_12 (lw_V q1074 q1075 q1076 q92 q1077) rfl ⟨by decide +kernel, by decide +kernel, by show _ = some (0 : Nat); decide +kernel⟩ ⟨Nat.le_of_ble_eq_true rfl, Nat.le_of_ble_eq_true rfl, Nat.le_of_ble_eq_true rfl, Nat.le_of_ble_eq_true rfl, Nat.le_of_ble_eq_true rfl⟩ (fun q => by cases q) hk.k.k7 jc_31 rfl (fun _ _ I4 _ _ hP => ?_) jj_kno
  obtain ⟨rfl, rfl, rfl, rfl,  h4⟩ := hP
  rw [s2_2 hq h2 hp9.2] at h4
  have hk4 := h4.tk t ht
  refine kk_top (nI (nv (σ.1 32 t) - 1 - 1)) (by rw [(s2_v1 hq (by omega) hp9.2).1]) ?_
  refine kk_istore (pc := 15) hX dX7_does_15 (by decide) ?_
  refine kk_aload_n (pc := 17) hX dX7_does_17 rfl ?_
  refine kk_getR (pc := 18) hX (x := some (β + 5000 + 20 * t + 7)) fl_X7_13_29 dX7_does_18 hk.k.k0 rfl hk4.l.pi ?_
  refine kk_iload_n (pc := 21) hX dX7_does_21 rfl ?_
  refine kk_callU (pc := 22) hX (owner := "BranchCells$Values") (v_Vnum31 X.1 _ _ _ _ (β + 5000 + 20 * t + 7) (β + 5000 + 20 * t + 8) (β + 5000 + 20 * t + 9) 12 hk.k.k7 hk.l.p0 hk.l.p1 hk.k.k8 hk.k.k9 (by decide) (nv (σ.1 32 t) - 1) (by omega) ((hk.c.ph _ (by omega)).trans (if_pos hfy))) dX7_does_22 (lw_meth q1083) ⟨q1078, q1079, q1081, q1082, q91, jj_inT q1080 rfl⟩ ⟨by decide +kernel, by decide +kernel, by show _ = some (1 : Nat); decide +kernel⟩ ⟨Nat.le_of_ble_eq_true rfl, Nat.le_of_ble_eq_true rfl, Nat.le_of_ble_eq_true rfl, Nat.le_of_ble_eq_true rfl, Nat.le_of_ble_eq_true rfl⟩ (fun q => by cases q) hk.k.k7 jc_31 rfl (jj_keq ?_) jj_kno
  refine kk_topL (σ.2 30 (12 * t + (nv (σ.1 32 t) - 1))) ((hk.c.pn _ (by omega)).trans (if_pos hfy)) ?_
  refine kk_lstore (pc := 25) hX dX7_does_25 (by decide) ?_
  refine kk_aload_n (pc := 27) hX dX7_does_27 rfl ?_
  refine kk_aload_n (pc := 28) hX dX7_does_28 rfl ?_
  refine kk_aload_n (pc := 29) hX dX7_does_29 rfl ?_
  refine kk_getR (pc := 30) hX (x := some (β + 5000 + 20 * t + 7)) fl_X7_13_29 dX7_does_30 hk.k.k0 rfl hk4.l.pi ?_
  refine kk_iload (pc := 33) hX dX7_does_33 rfl ?_
  refine kk_callU (pc := 35) hX (owner := "BranchCells$Values") (v_Vnum31 X.1 _ _ _ _ (β + 5000 + 20 * t + 7) (β + 5000 + 20 * t + 8) (β + 5000 + 20 * t + 9) 12 hk.k.k7 hk.l.p0 hk.l.p1 hk.k.k8 hk.k.k9 (by decide) (nv (σ.1 32 t) - 1 - 1) (by omega) ((hk.c.ph _ (by omega)).trans (if_pos hfx))) dX7_does_35 (lw_meth q1083) ⟨q1078, q1079, q1081, q1082, q91, jj_inT q1080 rfl⟩ ⟨by decide +kernel, by decide +kernel, by show _ = some (1 : Nat); decide +kernel⟩ ⟨Nat.le_of_ble_eq_true rfl, Nat.le_of_ble_eq_true rfl, Nat.le_of_ble_eq_true rfl, Nat.le_of_ble_eq_true rfl, Nat.le_of_ble_eq_true rfl⟩ (fun q => by cases q) hk.k.k7 jc_31 rfl (jj_keq ?_) jj_kno
  refine kk_topL (σ.2 30 (12 * t + (nv (σ.1 32 t) - 1 - 1))) ((hk.c.pn _ (by omega)).trans (if_pos hfx)) ?_
  refine kk_lload (pc := 38) hX dX7_does_38 rfl ?_
  refine kk_callU (pc := 40) hX (owner := "BranchCells$Reckoner") (v_of11 X.1 _ _ _ _ 31 (σ.2 30 (12 * t + (nv (σ.1 32 t) - 1 - 1))) (σ.2 30 (12 * t + (nv (σ.1 32 t) - 1)))) dX7_does_40 (lw_meth q1097) ⟨q1086, q1088, q1095, q1096, q67, jj_inT q1087 rfl⟩ ⟨by decide +kernel, by decide +kernel, by show _ = some (2 : Nat); decide +kernel⟩ ⟨Nat.le_of_ble_eq_true rfl, Nat.le_of_ble_eq_true rfl, Nat.le_of_ble_eq_true rfl, Nat.le_of_ble_eq_true rfl, Nat.le_of_ble_eq_true rfl⟩ (fun q => by cases q) (h.ro.dd 11 (by decide)).k0 jc_14 rfl (jj_keq ?_) jj_kno
  refine kk_callV (pc := 43) hX (v_cTput X.1 _ _ _ _ h4 ht (s2_v2 hq h2 hp9.2).2 ((σ.2 30 (12 * t + (nv (σ.1 32 t) - 1 - 1))) ||| (σ.2 30 (12 * t + (nv (σ.1 32 t) - 1)))) (by rw [(s2_v2 hq h2 hp9.2).1]; omega)) dX7_does_43 (lw_V q1112 q1058 q1059 q88 q1060) rfl ⟨by decide +kernel, by decide +kernel, by show _ = some (1 : Nat); decide +kernel⟩ ⟨Nat.le_of_ble_eq_true rfl, Nat.le_of_ble_eq_true rfl, Nat.le_of_ble_eq_true rfl, Nat.le_of_ble_eq_true rfl, Nat.le_of_ble_eq_true rfl⟩ (fun q => by cases q) hk.k.k0 jc_29 rfl (fun _ _ I5 L5 r5 hP => ?_) jj_kno
  obtain ⟨rfl, rfl,  h5⟩ := hP
  exact kk_vret (pc := 46) hX dX7_does_46 hr ⟨Nat.le_refl _, Nat.le_refl _⟩ (⟨rfl, rfl, h5⟩)

theorem v_do11X (G : jj_G) (τ : jj_T) (I : jj_I) (L : jj_L) (r : jj_R) {β : Nat} {ss : List Nat} {e N : Nat → Nat} {ρ : jm} {σ : jm} {t : Nat} (h : cr_rel β ss e N ρ (cr_pl (σ.1 14) t (σ.1 14 t + 1)) σ τ I L r) (hv : m_inv σ) (ht : t < nv (σ.1 0 11)) (h0 : σ.1 15 t = 0) (a : Int32) (h2 : 2 ≤ nv (σ.1 32 t)) (hfy : ¬ σ.1 31 (12 * t + (nv (σ.1 32 t) - 1)) = 0) (q : Nat) (hq7 : τ q = none ∧ ¬ (1 ≤ q ∧ q ≤ 6)) (hq9 : β + 10000 ≤ q) : kk_M G yX7_does (ws_ yX7_does cX7_does 7 none) { frames := 6, cells := 1, slots := 7, locals := 134 } [jR (some 31), jR (some (β + 5000 + 20 * t)), jI a] true τ I L r jj_noP (fun a τ' I' L' r' => a = q ∧ I' q 6 = 2 ∧ cr_rel β ss e N ρ (cr_pl (σ.1 14) t (σ.1 14 t + 1)) (m_s2 t 2 σ) τ' I' L' r') := by
  refine kk_intro "BranchCells$Reckoner" (by decide) rfl (Nat.le_of_ble_eq_true rfl) ?_
  intro X hG hX hr hN hC hF hAd
  have hk := h.tk t ht
  have hT := hv.T
  have hp9 := (hv.tk t ht).po.1
  have hq := hp9.1
  have hp12 := hp9.2
  have hs9 := (hv.tk t ht).pr.2
  have hn4 : ¬ σ.1 22 t = -4 := by rw [(hv.tk t ht).pr.1]; exact nI_n4 (by have := hv.S; omega)
  have hs := h.sg _ hs9
  refine kk_aload_n (pc := 0) hX dX7_does_0 rfl ?_
  refine kk_getR (pc := 1) hX (x := some (β + 5000 + 20 * t + 7)) fl_X7_13_29 dX7_does_1 hk.k.k0 rfl hk.l.pi ?_
  refine kk_callV (pc := 4) hX (v_ctake X.1 _ _ _ _ h ht hq (by omega)) dX7_does_4 (lw_V q1074 q1075 q1076 q92 q1077) rfl ⟨by decide +kernel, by decide +kernel, by show _ = some (0 : Nat); decide +kernel⟩ ⟨Nat.le_of_ble_eq_true rfl, Nat.le_of_ble_eq_true rfl, Nat.le_of_ble_eq_true rfl, Nat.le_of_ble_eq_true rfl, Nat.le_of_ble_eq_true rfl⟩ (fun q => by cases q) hk.k.k7 jc_31 rfl (fun _ _ I3 _ _ hP => ?_) jj_kno
  obtain ⟨rfl, rfl, rfl, rfl,  h3⟩ := hP
  have hk3 := h3.tk t ht
  refine kk_istore_n (pc := 7) hX dX7_does_7 (by decide) ?_
  refine kk_aload_n (pc := 8) hX dX7_does_8 rfl ?_
  refine kk_getR (pc := 9) hX (x := some (β + 5000 + 20 * t + 7)) fl_X7_13_29 dX7_does_9 hk.k.k0 rfl hk3.l.pi ?_
  refine kk_callV (pc := 12) hX (v_ctake X.1 _ _ _ _ h3 ht (s2_v1 hq (by omega) hp9.2).2 (by rw [(s2_v1 hq (by omega) hp9.2).1]; omega)) dX7_does_12 (lw_V q1074 q1075 q1076 q92 q1077) rfl ⟨by decide +kernel, by decide +kernel, by show _ = some (0 : Nat); decide +kernel⟩ ⟨Nat.le_of_ble_eq_true rfl, Nat.le_of_ble_eq_true rfl, Nat.le_of_ble_eq_true rfl, Nat.le_of_ble_eq_true rfl, Nat.le_of_ble_eq_true rfl⟩ (fun q => by cases q) hk.k.k7 jc_31 rfl (fun _ _ I4 _ _ hP => ?_) jj_kno
  obtain ⟨rfl, rfl, rfl, rfl,  h4⟩ := hP
  rw [s2_2 hq h2 hp9.2] at h4
  have hk4 := h4.tk t ht
  refine kk_top (nI (nv (σ.1 32 t) - 1 - 1)) (by rw [(s2_v1 hq (by omega) hp9.2).1]) ?_
  refine kk_istore (pc := 15) hX dX7_does_15 (by decide) ?_
  refine kk_aload_n (pc := 17) hX dX7_does_17 rfl ?_
  refine kk_getR (pc := 18) hX (x := some (β + 5000 + 20 * t + 7)) fl_X7_13_29 dX7_does_18 hk.k.k0 rfl hk4.l.pi ?_
  refine kk_iload_n (pc := 21) hX dX7_does_21 rfl ?_
  refine kk_callU (pc := 22) hX (owner := "BranchCells$Values") (v_VnumX31 X.1 _ _ _ _ (β + 5000 + 20 * t + 7) (β + 5000 + 20 * t + 8) (β + 5000 + 20 * t + 9) 12 hk.k.k7 hk.l.p0 hk.l.p1 hk.k.k8 hk.k.k9 (by decide) (nv (σ.1 32 t) - 1) _ (by omega) ((hk.c.ph _ (by omega)).trans (if_neg hfy)) q hq7) dX7_does_22 (lw_meth q1083) ⟨q1078, q1079, q1081, q1082, q91, jj_inT q1080 rfl⟩ ⟨by decide +kernel, by decide +kernel, by show _ = some (1 : Nat); decide +kernel⟩ ⟨Nat.le_of_ble_eq_true rfl, Nat.le_of_ble_eq_true rfl, Nat.le_of_ble_eq_true rfl, Nat.le_of_ble_eq_true rfl, Nat.le_of_ble_eq_true rfl⟩ (fun _ => hF rfl) hk.k.k7 jc_31 rfl jj_knp (jj_kth ?_)
  exact kk_out (pc := 22) hX hN ⟨Nat.le_refl _, Nat.le_refl _⟩ (⟨rfl, jj_us, (cr_rel.gar h4 hq7.1 hq9 (fun b hb => jj_tn hb) (fun b hb => (jj_ua hb).trans (jj_zn hb)) (fun b hb => jj_zn hb) (fun b hb => (jj_ua hb).trans ((jj_ua hb).trans ((jj_ua hb).trans ((jj_ua hb).trans ((jj_ua hb).trans ((jj_ua hb).trans ((jj_ua hb).trans (jj_zn hb)))))))))⟩)

theorem v_do11Z (G : jj_G) (τ : jj_T) (I : jj_I) (L : jj_L) (r : jj_R) {β : Nat} {ss : List Nat} {e N : Nat → Nat} {ρ : jm} {σ : jm} {t : Nat} (h : cr_rel β ss e N ρ (cr_pl (σ.1 14) t (σ.1 14 t + 1)) σ τ I L r) (hv : m_inv σ) (ht : t < nv (σ.1 0 11)) (h0 : σ.1 15 t = 0) (a : Int32) (h2 : 2 ≤ nv (σ.1 32 t)) (hfy : σ.1 31 (12 * t + (nv (σ.1 32 t) - 1)) = 0) (hfx : ¬ σ.1 31 (12 * t + (nv (σ.1 32 t) - 1 - 1)) = 0) (q : Nat) (hq7 : τ q = none ∧ ¬ (1 ≤ q ∧ q ≤ 6)) (hq9 : β + 10000 ≤ q) : kk_M G yX7_does (ws_ yX7_does cX7_does 7 none) { frames := 6, cells := 1, slots := 7, locals := 134 } [jR (some 31), jR (some (β + 5000 + 20 * t)), jI a] true τ I L r jj_noP (fun a τ' I' L' r' => a = q ∧ I' q 6 = 2 ∧ cr_rel β ss e N ρ (cr_pl (σ.1 14) t (σ.1 14 t + 1)) (m_s2 t 2 σ) τ' I' L' r') := by
  refine kk_intro "BranchCells$Reckoner" (by decide) rfl (Nat.le_of_ble_eq_true rfl) ?_
  intro X hG hX hr hN hC hF hAd
  have hk := h.tk t ht
  have hT := hv.T
  have hp9 := (hv.tk t ht).po.1
  have hq := hp9.1
  have hp12 := hp9.2
  have hs9 := (hv.tk t ht).pr.2
  have hn4 : ¬ σ.1 22 t = -4 := by rw [(hv.tk t ht).pr.1]; exact nI_n4 (by have := hv.S; omega)
  have hs := h.sg _ hs9
  refine kk_aload_n (pc := 0) hX dX7_does_0 rfl ?_
  refine kk_getR (pc := 1) hX (x := some (β + 5000 + 20 * t + 7)) fl_X7_13_29 dX7_does_1 hk.k.k0 rfl hk.l.pi ?_
  refine kk_callV (pc := 4) hX (v_ctake X.1 _ _ _ _ h ht hq (by omega)) dX7_does_4 (lw_V q1074 q1075 q1076 q92 q1077) rfl ⟨by decide +kernel, by decide +kernel, by show _ = some (0 : Nat); decide +kernel⟩ ⟨Nat.le_of_ble_eq_true rfl, Nat.le_of_ble_eq_true rfl, Nat.le_of_ble_eq_true rfl, Nat.le_of_ble_eq_true rfl, Nat.le_of_ble_eq_true rfl⟩ (fun q => by cases q) hk.k.k7 jc_31 rfl (fun _ _ I3 _ _ hP => ?_) jj_kno
  obtain ⟨rfl, rfl, rfl, rfl,  h3⟩ := hP
  have hk3 := h3.tk t ht
  refine kk_istore_n (pc := 7) hX dX7_does_7 (by decide) ?_
  refine kk_aload_n (pc := 8) hX dX7_does_8 rfl ?_
  refine kk_getR (pc := 9) hX (x := some (β + 5000 + 20 * t + 7)) fl_X7_13_29 dX7_does_9 hk.k.k0 rfl hk3.l.pi ?_
  refine kk_callV (pc := 12) hX (v_ctake X.1 _ _ _ _ h3 ht (s2_v1 hq (by omega) hp9.2).2 (by rw [(s2_v1 hq (by omega) hp9.2).1]; omega)) dX7_does_12 (lw_V q1074 q1075 q1076 q92 q1077) rfl ⟨by decide +kernel, by decide +kernel, by show _ = some (0 : Nat); decide +kernel⟩ ⟨Nat.le_of_ble_eq_true rfl, Nat.le_of_ble_eq_true rfl, Nat.le_of_ble_eq_true rfl, Nat.le_of_ble_eq_true rfl, Nat.le_of_ble_eq_true rfl⟩ (fun q => by cases q) hk.k.k7 jc_31 rfl (fun _ _ I4 _ _ hP => ?_) jj_kno
  obtain ⟨rfl, rfl, rfl, rfl,  h4⟩ := hP
  rw [s2_2 hq h2 hp9.2] at h4
  have hk4 := h4.tk t ht
  refine kk_top (nI (nv (σ.1 32 t) - 1 - 1)) (by rw [(s2_v1 hq (by omega) hp9.2).1]) ?_
  refine kk_istore (pc := 15) hX dX7_does_15 (by decide) ?_
  refine kk_aload_n (pc := 17) hX dX7_does_17 rfl ?_
  refine kk_getR (pc := 18) hX (x := some (β + 5000 + 20 * t + 7)) fl_X7_13_29 dX7_does_18 hk.k.k0 rfl hk4.l.pi ?_
  refine kk_iload_n (pc := 21) hX dX7_does_21 rfl ?_
  refine kk_callU (pc := 22) hX (owner := "BranchCells$Values") (v_Vnum31 X.1 _ _ _ _ (β + 5000 + 20 * t + 7) (β + 5000 + 20 * t + 8) (β + 5000 + 20 * t + 9) 12 hk.k.k7 hk.l.p0 hk.l.p1 hk.k.k8 hk.k.k9 (by decide) (nv (σ.1 32 t) - 1) (by omega) ((hk.c.ph _ (by omega)).trans (if_pos hfy))) dX7_does_22 (lw_meth q1083) ⟨q1078, q1079, q1081, q1082, q91, jj_inT q1080 rfl⟩ ⟨by decide +kernel, by decide +kernel, by show _ = some (1 : Nat); decide +kernel⟩ ⟨Nat.le_of_ble_eq_true rfl, Nat.le_of_ble_eq_true rfl, Nat.le_of_ble_eq_true rfl, Nat.le_of_ble_eq_true rfl, Nat.le_of_ble_eq_true rfl⟩ (fun q => by cases q) hk.k.k7 jc_31 rfl (jj_keq ?_) jj_kno
  refine kk_topL (σ.2 30 (12 * t + (nv (σ.1 32 t) - 1))) ((hk.c.pn _ (by omega)).trans (if_pos hfy)) ?_
  refine kk_lstore (pc := 25) hX dX7_does_25 (by decide) ?_
  refine kk_aload_n (pc := 27) hX dX7_does_27 rfl ?_
  refine kk_aload_n (pc := 28) hX dX7_does_28 rfl ?_
  refine kk_aload_n (pc := 29) hX dX7_does_29 rfl ?_
  refine kk_getR (pc := 30) hX (x := some (β + 5000 + 20 * t + 7)) fl_X7_13_29 dX7_does_30 hk.k.k0 rfl hk4.l.pi ?_
  refine kk_iload (pc := 33) hX dX7_does_33 rfl ?_
  refine kk_callU (pc := 35) hX (owner := "BranchCells$Values") (v_VnumX31 X.1 _ _ _ _ (β + 5000 + 20 * t + 7) (β + 5000 + 20 * t + 8) (β + 5000 + 20 * t + 9) 12 hk.k.k7 hk.l.p0 hk.l.p1 hk.k.k8 hk.k.k9 (by decide) (nv (σ.1 32 t) - 1 - 1) _ (by omega) ((hk.c.ph _ (by omega)).trans (if_neg hfx)) q hq7) dX7_does_35 (lw_meth q1083) ⟨q1078, q1079, q1081, q1082, q91, jj_inT q1080 rfl⟩ ⟨by decide +kernel, by decide +kernel, by show _ = some (1 : Nat); decide +kernel⟩ ⟨Nat.le_of_ble_eq_true rfl, Nat.le_of_ble_eq_true rfl, Nat.le_of_ble_eq_true rfl, Nat.le_of_ble_eq_true rfl, Nat.le_of_ble_eq_true rfl⟩ (fun _ => hF rfl) hk.k.k7 jc_31 rfl jj_knp (jj_kth ?_)
  exact kk_out (pc := 35) hX hN ⟨Nat.le_refl _, Nat.le_refl _⟩ (⟨rfl, jj_us, (cr_rel.gar h4 hq7.1 hq9 (fun b hb => jj_tn hb) (fun b hb => (jj_ua hb).trans (jj_zn hb)) (fun b hb => jj_zn hb) (fun b hb => (jj_ua hb).trans ((jj_ua hb).trans ((jj_ua hb).trans ((jj_ua hb).trans ((jj_ua hb).trans ((jj_ua hb).trans ((jj_ua hb).trans (jj_zn hb)))))))))⟩)

theorem v_do8Y (G : jj_G) (τ : jj_T) (I : jj_I) (L : jj_L) (r : jj_R) {β : Nat} {ss : List Nat} {e N : Nat → Nat} {ρ : jm} {σ : jm} {t : Nat} (h : cr_rel β ss e N ρ (cr_pl (σ.1 14) t (σ.1 14 t + 1)) σ τ I L r) (hv : m_inv σ) (ht : t < nv (σ.1 0 11)) (h0 : σ.1 15 t = 0) (a : Int32) (h2 : 2 ≤ nv (σ.1 32 t)) (hfy : σ.1 31 (12 * t + (nv (σ.1 32 t) - 1)) = 0) (hfx : σ.1 31 (12 * t + (nv (σ.1 32 t) - 1 - 1)) = 0) (hy0 : (σ.2 30 (12 * t + (nv (σ.1 32 t) - 1))) = 0) (q : Nat) (hq7 : τ q = none ∧ ¬ (1 ≤ q ∧ q ≤ 6)) (hq9 : β + 10000 ≤ q) : kk_M G yX7_does (ws_ yX7_does cX7_does 7 none) { frames := 6, cells := 1, slots := 7, locals := 134 } [jR (some 28), jR (some (β + 5000 + 20 * t)), jI a] true τ I L r jj_noP (fun a τ' I' L' r' => a = q ∧ I' q 6 = 1 ∧ cr_rel β ss e N ρ (cr_pl (σ.1 14) t (σ.1 14 t + 1)) (m_s2 t 2 σ) τ' I' L' r') := by
  refine kk_intro "BranchCells$Reckoner" (by decide) rfl (Nat.le_of_ble_eq_true rfl) ?_
  intro X hG hX hr hN hC hF hAd
  have hk := h.tk t ht
  have hT := hv.T
  have hp9 := (hv.tk t ht).po.1
  have hq := hp9.1
  have hp12 := hp9.2
  have hs9 := (hv.tk t ht).pr.2
  have hn4 : ¬ σ.1 22 t = -4 := by rw [(hv.tk t ht).pr.1]; exact nI_n4 (by have := hv.S; omega)
  have hs := h.sg _ hs9
  refine kk_aload_n (pc := 0) hX dX7_does_0 rfl ?_
  refine kk_getR (pc := 1) hX (x := some (β + 5000 + 20 * t + 7)) fl_X7_13_29 dX7_does_1 hk.k.k0 rfl hk.l.pi ?_
  refine kk_callV (pc := 4) hX (v_ctake X.1 _ _ _ _ h ht hq (by omega)) dX7_does_4 (lw_V q1074 q1075 q1076 q92 q1077) rfl ⟨by decide +kernel, by decide +kernel, by show _ = some (0 : Nat); decide +kernel⟩ ⟨Nat.le_of_ble_eq_true rfl, Nat.le_of_ble_eq_true rfl, Nat.le_of_ble_eq_true rfl, Nat.le_of_ble_eq_true rfl, Nat.le_of_ble_eq_true rfl⟩ (fun q => by cases q) hk.k.k7 jc_31 rfl (fun _ _ I3 _ _ hP => ?_) jj_kno
  obtain ⟨rfl, rfl, rfl, rfl,  h3⟩ := hP
  have hk3 := h3.tk t ht
  refine kk_istore_n (pc := 7) hX dX7_does_7 (by decide) ?_
  refine kk_aload_n (pc := 8) hX dX7_does_8 rfl ?_
  refine kk_getR (pc := 9) hX (x := some (β + 5000 + 20 * t + 7)) fl_X7_13_29 dX7_does_9 hk.k.k0 rfl hk3.l.pi ?_
  refine kk_callV (pc := 12) hX (v_ctake X.1 _ _ _ _ h3 ht (s2_v1 hq (by omega) hp9.2).2 (by rw [(s2_v1 hq (by omega) hp9.2).1]; omega)) dX7_does_12 (lw_V q1074 q1075 q1076 q92 q1077) rfl ⟨by decide +kernel, by decide +kernel, by show _ = some (0 : Nat); decide +kernel⟩ ⟨Nat.le_of_ble_eq_true rfl, Nat.le_of_ble_eq_true rfl, Nat.le_of_ble_eq_true rfl, Nat.le_of_ble_eq_true rfl, Nat.le_of_ble_eq_true rfl⟩ (fun q => by cases q) hk.k.k7 jc_31 rfl (fun _ _ I4 _ _ hP => ?_) jj_kno
  obtain ⟨rfl, rfl, rfl, rfl,  h4⟩ := hP
  rw [s2_2 hq h2 hp9.2] at h4
  have hk4 := h4.tk t ht
  refine kk_top (nI (nv (σ.1 32 t) - 1 - 1)) (by rw [(s2_v1 hq (by omega) hp9.2).1]) ?_
  refine kk_istore (pc := 15) hX dX7_does_15 (by decide) ?_
  refine kk_aload_n (pc := 17) hX dX7_does_17 rfl ?_
  refine kk_getR (pc := 18) hX (x := some (β + 5000 + 20 * t + 7)) fl_X7_13_29 dX7_does_18 hk.k.k0 rfl hk4.l.pi ?_
  refine kk_iload_n (pc := 21) hX dX7_does_21 rfl ?_
  refine kk_callU (pc := 22) hX (owner := "BranchCells$Values") (v_Vnum31 X.1 _ _ _ _ (β + 5000 + 20 * t + 7) (β + 5000 + 20 * t + 8) (β + 5000 + 20 * t + 9) 12 hk.k.k7 hk.l.p0 hk.l.p1 hk.k.k8 hk.k.k9 (by decide) (nv (σ.1 32 t) - 1) (by omega) ((hk.c.ph _ (by omega)).trans (if_pos hfy))) dX7_does_22 (lw_meth q1083) ⟨q1078, q1079, q1081, q1082, q91, jj_inT q1080 rfl⟩ ⟨by decide +kernel, by decide +kernel, by show _ = some (1 : Nat); decide +kernel⟩ ⟨Nat.le_of_ble_eq_true rfl, Nat.le_of_ble_eq_true rfl, Nat.le_of_ble_eq_true rfl, Nat.le_of_ble_eq_true rfl, Nat.le_of_ble_eq_true rfl⟩ (fun q => by cases q) hk.k.k7 jc_31 rfl (jj_keq ?_) jj_kno
  refine kk_topL (σ.2 30 (12 * t + (nv (σ.1 32 t) - 1))) ((hk.c.pn _ (by omega)).trans (if_pos hfy)) ?_
  refine kk_lstore (pc := 25) hX dX7_does_25 (by decide) ?_
  refine kk_aload_n (pc := 27) hX dX7_does_27 rfl ?_
  refine kk_aload_n (pc := 28) hX dX7_does_28 rfl ?_
  refine kk_aload_n (pc := 29) hX dX7_does_29 rfl ?_
  refine kk_getR (pc := 30) hX (x := some (β + 5000 + 20 * t + 7)) fl_X7_13_29 dX7_does_30 hk.k.k0 rfl hk4.l.pi ?_
  refine kk_iload (pc := 33) hX dX7_does_33 rfl ?_
  refine kk_callU (pc := 35) hX (owner := "BranchCells$Values") (v_Vnum31 X.1 _ _ _ _ (β + 5000 + 20 * t + 7) (β + 5000 + 20 * t + 8) (β + 5000 + 20 * t + 9) 12 hk.k.k7 hk.l.p0 hk.l.p1 hk.k.k8 hk.k.k9 (by decide) (nv (σ.1 32 t) - 1 - 1) (by omega) ((hk.c.ph _ (by omega)).trans (if_pos hfx))) dX7_does_35 (lw_meth q1083) ⟨q1078, q1079, q1081, q1082, q91, jj_inT q1080 rfl⟩ ⟨by decide +kernel, by decide +kernel, by show _ = some (1 : Nat); decide +kernel⟩ ⟨Nat.le_of_ble_eq_true rfl, Nat.le_of_ble_eq_true rfl, Nat.le_of_ble_eq_true rfl, Nat.le_of_ble_eq_true rfl, Nat.le_of_ble_eq_true rfl⟩ (fun q => by cases q) hk.k.k7 jc_31 rfl (jj_keq ?_) jj_kno
  refine kk_topL (σ.2 30 (12 * t + (nv (σ.1 32 t) - 1 - 1))) ((hk.c.pn _ (by omega)).trans (if_pos hfx)) ?_
  refine kk_lload (pc := 38) hX dX7_does_38 rfl ?_
  refine kk_callU (pc := 40) hX (owner := "BranchCells$Reckoner") (v_of8X X.1 _ _ _ _ 28 (σ.2 30 (12 * t + (nv (σ.1 32 t) - 1 - 1))) (σ.2 30 (12 * t + (nv (σ.1 32 t) - 1))) hy0 q hq7) dX7_does_40 (lw_meth q1109) ⟨q1086, q1088, q1107, q1108, q64, jj_inT q1087 rfl⟩ ⟨by decide +kernel, by decide +kernel, by show _ = some (2 : Nat); decide +kernel⟩ ⟨Nat.le_of_ble_eq_true rfl, Nat.le_of_ble_eq_true rfl, Nat.le_of_ble_eq_true rfl, Nat.le_of_ble_eq_true rfl, Nat.le_of_ble_eq_true rfl⟩ (fun _ => hF rfl) (h.ro.dd 8 (by decide)).k0 jc_11 rfl jj_knp (jj_kth ?_)
  exact kk_out (pc := 40) hX hN ⟨Nat.le_refl _, Nat.le_refl _⟩ (⟨rfl, jj_us, (cr_rel.gar h4 hq7.1 hq9 (fun b hb => jj_tn hb) (fun b hb => (jj_ua hb).trans (jj_zn hb)) (fun b hb => jj_zn hb) (fun b hb => (jj_ua hb).trans ((jj_ua hb).trans ((jj_ua hb).trans ((jj_ua hb).trans ((jj_ua hb).trans ((jj_ua hb).trans ((jj_ua hb).trans (jj_zn hb)))))))))⟩)
