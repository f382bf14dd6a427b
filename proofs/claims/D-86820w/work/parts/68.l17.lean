set_option maxRecDepth 100000
theorem v_do18 (G : jj_G) (τ : jj_T) (I : jj_I) (L : jj_L) (r : jj_R) {β : Nat} {ss : List Nat} {e N : Nat → Nat} {ρ : jm} {σ : jm} {t : Nat} (h : cr_rel β ss e N ρ (cr_pl (σ.1 14) t (σ.1 14 t + 1)) σ τ I L r) (hv : m_inv σ) (ht : t < nv (σ.1 0 11)) (h0 : σ.1 15 t = 0) (a : Int32) (h1 : 1 ≤ nv (σ.1 32 t)) (hf : ¬ σ.1 31 (12 * t + (nv (σ.1 32 t) - 1)) = 0) (hto : nv (σ.2 30 (12 * t + (nv (σ.1 32 t) - 1))).toInt32 ≠ t) (hso : σ.1 15 (nv (σ.2 30 (12 * t + (nv (σ.1 32 t) - 1))).toInt32) = 2) : kk_M G yX21_does (ws_ yX21_does cX21_does 3 none) { frames := 6, cells := 0, slots := 0, locals := 136 } [jR (some 38), jR (some (β + 5000 + 20 * t)), jI a] false τ I L r (fun v' τ' I' L' r' => v' = none ∧ τ' = τ ∧ cr_rel β ss e N ρ (cr_pl (σ.1 14) t (σ.1 14 t + 1)) (m_join t (nv (σ.2 30 (12 * t + (nv (σ.1 32 t) - 1))).toInt32) (m_s2 t 1 σ)) τ I' L' r') jj_no := by
  refine kk_intro "BranchCells$19" (by decide) rfl (Nat.le_of_ble_eq_true rfl) ?_
  intro X hG hX hr hN hC hF hAd
  have hk := h.tk t ht
  have hT := hv.T
  have hp9 := (hv.tk t ht).po.1
  have hq := hp9.1
  have hp12 := hp9.2
  have hs9 := (hv.tk t ht).pr.2
  have hn4 : ¬ σ.1 22 t = -4 := by rw [(hv.tk t ht).pr.1]; exact nI_n4 (by have := hv.S; omega)
  have hs := h.sg _ hs9
  have ho9 := ((hv.tk t ht).ph _ (show nv (σ.1 32 t) - 1 < nv (σ.1 32 t) by omega) hf).nv hT
  refine kk_aload_n (pc := 0) hX dX21_does_0 rfl ?_
  refine kk_getR (pc := 1) hX (x := some 10) fl_X21_1_21 dX21_does_1 (h.ro.dd 18 (by decide)).k0 rfl (h.ro.dd 18 (by decide)).th ?_
  refine kk_aload_n (pc := 4) hX dX21_does_4 rfl ?_
  refine kk_aload_n (pc := 5) hX dX21_does_5 rfl ?_
  refine kk_getR (pc := 6) hX (x := some (β + 5000 + 20 * t + 7)) fl_X21_13_29 dX21_does_6 hk.k.k0 rfl hk.l.pi ?_
  refine kk_aload_n (pc := 9) hX dX21_does_9 rfl ?_
  refine kk_getR (pc := 10) hX (x := some (β + 5000 + 20 * t + 7)) fl_X21_13_29 dX21_does_10 hk.k.k0 rfl hk.l.pi ?_
  refine kk_callV (pc := 13) hX (v_ctake X.1 _ _ _ _ h ht hq h1) dX21_does_13 (lw_V q1153 q1075 q1076 q92 q1077) rfl ⟨by decide +kernel, by decide +kernel, by show _ = some (0 : Nat); decide +kernel⟩ ⟨Nat.le_of_ble_eq_true rfl, Nat.le_of_ble_eq_true rfl, Nat.le_of_ble_eq_true rfl, Nat.le_of_ble_eq_true rfl, Nat.le_of_ble_eq_true rfl⟩ (fun q => by cases q) hk.k.k7 jc_31 rfl (fun _ _ I2 _ _ hP => ?_) jj_kno
  obtain ⟨rfl, rfl, rfl, rfl,  h2⟩ := hP
  have hk2 := h2.tk t ht
  refine kk_callU (pc := 16) hX (owner := "BranchCells$Values") (v_Vtask31 X.1 _ _ _ _ (β + 5000 + 20 * t + 7) (β + 5000 + 20 * t + 8) (β + 5000 + 20 * t + 9) 12 hk.k.k7 hk.l.p0 hk.l.p1 hk.k.k8 hk.k.k9 (by decide) (nv (σ.1 32 t) - 1) (β + 5000 + 20 * nv (σ.2 30 (12 * t + (nv (σ.1 32 t) - 1))).toInt32) (by omega) ((hk.c.ph _ (by omega)).trans (if_neg hf))) dX21_does_16 (lw_meth q1159) ⟨q1154, q1155, q1157, q1158, q91, jj_inT q1156 rfl⟩ ⟨by decide +kernel, by decide +kernel, by show _ = some (1 : Nat); decide +kernel⟩ ⟨Nat.le_of_ble_eq_true rfl, Nat.le_of_ble_eq_true rfl, Nat.le_of_ble_eq_true rfl, Nat.le_of_ble_eq_true rfl, Nat.le_of_ble_eq_true rfl⟩ (fun q => by cases q) hk.k.k7 jc_31 rfl (jj_keq ?_) jj_kno
  refine kk_callVN (pc := 19) hX (v_cjoin X.1 _ _ _ _ h2 hv ht _ ho9.2.1 hto h0 h1 hso) dX21_does_19 (lw_meth q1163) (jj_inT q1160 rfl) ⟨q1162, qs15, q50⟩ ⟨by decide +kernel, by decide +kernel, by show _ = some (2 : Nat); decide +kernel⟩ ⟨Nat.le_of_ble_eq_true rfl, Nat.le_of_ble_eq_true rfl, Nat.le_of_ble_eq_true rfl, Nat.le_of_ble_eq_true rfl, Nat.le_of_ble_eq_true rfl⟩ (fun q => by cases q) h.ro.k0 jc_0 rfl (fun _ _ I3 L3 r3 hP => ?_) jj_kno
  obtain ⟨rfl, rfl,  h3⟩ := hP
  exact kk_vret (pc := 22) hX dX21_does_22 hr ⟨Nat.le_refl _, Nat.le_refl _⟩ (⟨rfl, rfl, h3⟩)

theorem v_do18Y (G : jj_G) (τ : jj_T) (I : jj_I) (L : jj_L) (r : jj_R) {β : Nat} {ss : List Nat} {e N : Nat → Nat} {ρ : jm} {σ : jm} {t : Nat} (h : cr_rel β ss e N ρ (cr_pl (σ.1 14) t (σ.1 14 t + 1)) σ τ I L r) (hv : m_inv σ) (ht : t < nv (σ.1 0 11)) (h0 : σ.1 15 t = 0) (a : Int32) (h1 : 1 ≤ nv (σ.1 32 t)) (hf : ¬ σ.1 31 (12 * t + (nv (σ.1 32 t) - 1)) = 0) (hto : nv (σ.2 30 (12 * t + (nv (σ.1 32 t) - 1))).toInt32 ≠ t) (hso : σ.1 15 (nv (σ.2 30 (12 * t + (nv (σ.1 32 t) - 1))).toInt32) = 3) (q : Nat) (hq7 : τ q = none ∧ ¬ (1 ≤ q ∧ q ≤ 6)) (hq9 : β + 10000 ≤ q) : kk_M G yX21_does (ws_ yX21_does cX21_does 3 none) { frames := 6, cells := 1, slots := 7, locals := 136 } [jR (some 38), jR (some (β + 5000 + 20 * t)), jI a] true τ I L r jj_noP (fun a τ' I' L' r' => a = q ∧ I' q 6 = (m_j1 t (nv (σ.2 30 (12 * t + (nv (σ.1 32 t) - 1))).toInt32) (m_s2 t 1 σ)).1 16 (nv (σ.2 30 (12 * t + (nv (σ.1 32 t) - 1))).toInt32) ∧ cr_rel β ss e N ρ (cr_pl (σ.1 14) t (σ.1 14 t + 1)) (m_j1 t (nv (σ.2 30 (12 * t + (nv (σ.1 32 t) - 1))).toInt32) (m_s2 t 1 σ)) τ' I' L' r') := by
  refine kk_intro "BranchCells$19" (by decide) rfl (Nat.le_of_ble_eq_true rfl) ?_
  intro X hG hX hr hN hC hF hAd
  have hk := h.tk t ht
  have hT := hv.T
  have hp9 := (hv.tk t ht).po.1
  have hq := hp9.1
  have hp12 := hp9.2
  have hs9 := (hv.tk t ht).pr.2
  have hn4 : ¬ σ.1 22 t = -4 := by rw [(hv.tk t ht).pr.1]; exact nI_n4 (by have := hv.S; omega)
  have hs := h.sg _ hs9
  have ho9 := ((hv.tk t ht).ph _ (show nv (σ.1 32 t) - 1 < nv (σ.1 32 t) by omega) hf).nv hT
  refine kk_aload_n (pc := 0) hX dX21_does_0 rfl ?_
  refine kk_getR (pc := 1) hX (x := some 10) fl_X21_1_21 dX21_does_1 (h.ro.dd 18 (by decide)).k0 rfl (h.ro.dd 18 (by decide)).th ?_
  refine kk_aload_n (pc := 4) hX dX21_does_4 rfl ?_
  refine kk_aload_n (pc := 5) hX dX21_does_5 rfl ?_
  refine kk_getR (pc := 6) hX (x := some (β + 5000 + 20 * t + 7)) fl_X21_13_29 dX21_does_6 hk.k.k0 rfl hk.l.pi ?_
  refine kk_aload_n (pc := 9) hX dX21_does_9 rfl ?_
  refine kk_getR (pc := 10) hX (x := some (β + 5000 + 20 * t + 7)) fl_X21_13_29 dX21_does_10 hk.k.k0 rfl hk.l.pi ?_
  refine kk_callV (pc := 13) hX (v_ctake X.1 _ _ _ _ h ht hq h1) dX21_does_13 (lw_V q1153 q1075 q1076 q92 q1077) rfl ⟨by decide +kernel, by decide +kernel, by show _ = some (0 : Nat); decide +kernel⟩ ⟨Nat.le_of_ble_eq_true rfl, Nat.le_of_ble_eq_true rfl, Nat.le_of_ble_eq_true rfl, Nat.le_of_ble_eq_true rfl, Nat.le_of_ble_eq_true rfl⟩ (fun q => by cases q) hk.k.k7 jc_31 rfl (fun _ _ I2 _ _ hP => ?_) jj_kno
  obtain ⟨rfl, rfl, rfl, rfl,  h2⟩ := hP
  have hk2 := h2.tk t ht
  refine kk_callU (pc := 16) hX (owner := "BranchCells$Values") (v_Vtask31 X.1 _ _ _ _ (β + 5000 + 20 * t + 7) (β + 5000 + 20 * t + 8) (β + 5000 + 20 * t + 9) 12 hk.k.k7 hk.l.p0 hk.l.p1 hk.k.k8 hk.k.k9 (by decide) (nv (σ.1 32 t) - 1) (β + 5000 + 20 * nv (σ.2 30 (12 * t + (nv (σ.1 32 t) - 1))).toInt32) (by omega) ((hk.c.ph _ (by omega)).trans (if_neg hf))) dX21_does_16 (lw_meth q1159) ⟨q1154, q1155, q1157, q1158, q91, jj_inT q1156 rfl⟩ ⟨by decide +kernel, by decide +kernel, by show _ = some (1 : Nat); decide +kernel⟩ ⟨Nat.le_of_ble_eq_true rfl, Nat.le_of_ble_eq_true rfl, Nat.le_of_ble_eq_true rfl, Nat.le_of_ble_eq_true rfl, Nat.le_of_ble_eq_true rfl⟩ (fun q => by cases q) hk.k.k7 jc_31 rfl (jj_keq ?_) jj_kno
  refine kk_callVN (pc := 19) hX (v_cjoinX X.1 _ _ _ _ h2 hv ht _ ho9.2.1 hto h0 h1 hso q hq7 hq9) dX21_does_19 (lw_meth q1163) (jj_inT q1160 rfl) ⟨q1162, qs15, q50⟩ ⟨by decide +kernel, by decide +kernel, by show _ = some (2 : Nat); decide +kernel⟩ ⟨Nat.le_of_ble_eq_true rfl, Nat.le_of_ble_eq_true rfl, Nat.le_of_ble_eq_true rfl, Nat.le_of_ble_eq_true rfl, Nat.le_of_ble_eq_true rfl⟩ (fun _ => hF rfl) h.ro.k0 jc_0 rfl jj_knp (fun a9 _ _ _ _ hP => ?_)
  exact kk_out (pc := 19) hX hN ⟨Nat.le_refl _, Nat.le_refl _⟩ hP
