set_option maxRecDepth 100000
theorem v_do14 (G : jj_G) (τ : jj_T) (I : jj_I) (L : jj_L) (r : jj_R) {β : Nat} {ss : List Nat} {e N : Nat → Nat} {ρ : jm} {σ : jm} {t : Nat} (h : cr_rel β ss e N ρ (cr_pl (σ.1 14) t (σ.1 14 t + 1)) σ τ I L r) (hv : m_inv σ) (ht : t < nv (σ.1 0 11)) (h0 : σ.1 15 t = 0) (k : Nat) (hc : k < 8) (hp : nv (σ.1 32 t) < 12) : kk_M G yX17_does (ws_ yX17_does cX17_does 3 none) { frames := 5, cells := 0, slots := 0, locals := 112 } [jR (some 34), jR (some (β + 5000 + 20 * t)), jI (nI k)] false τ I L r (fun v' τ' I' L' r' => v' = none ∧ τ' = τ ∧ cr_rel β ss e N ρ (cr_pl (σ.1 14) t (σ.1 14 t + 1)) (m_d14 t k σ) τ I' L' r') jj_no := by
  refine kk_intro "BranchCells$15" (by decide) rfl (Nat.le_of_ble_eq_true rfl) ?_
  intro X hG hX hr hN hC hF hAd
  have hk := h.tk t ht
  have hT := hv.T
  have hp9 := (hv.tk t ht).po.1
  have hq := hp9.1
  have hp12 := hp9.2
  have hs9 := (hv.tk t ht).pr.2
  have hn4 : ¬ σ.1 22 t = -4 := by rw [(hv.tk t ht).pr.1]; exact nI_n4 (by have := hv.S; omega)
  have hs := h.sg _ hs9
  refine kk_aload_n (pc := 0) hX dX17_does_0 rfl ?_
  refine kk_getR (pc := 1) hX (x := some (β + 5000 + 20 * t + 7)) fl_X17_13_29 dX17_does_1 hk.k.k0 rfl hk.l.pi ?_
  refine kk_aload_n (pc := 4) hX dX17_does_4 rfl ?_
  refine kk_getR (pc := 5) hX (x := some (β + 5000 + 20 * t + 4)) fl_X17_19_29 dX17_does_5 hk.k.k0 rfl hk.l.sl ?_
  refine kk_getR (pc := 8) hX (x := some (β + 5000 + 20 * t + 5)) fl_X17_23_30 dX17_does_8 hk.k.k4 rfl hk.l.s0 ?_
  refine kk_iload_n (pc := 11) hX dX17_does_11 rfl ?_
  refine kk_lald (pc := 12) hX k dX17_does_12 hk.k.k5 rfl rfl ⟨hc, by omega⟩ ?_
  refine kk_topL (cr_nu (σ.1 29 (8 * t + k)) (σ.2 28 (8 * t + k))) (hk.c.sn k hc) ?_
  refine kk_aload_n (pc := 13) hX dX17_does_13 rfl ?_
  refine kk_getR (pc := 14) hX (x := some (β + 5000 + 20 * t + 4)) fl_X17_19_29 dX17_does_14 hk.k.k0 rfl hk.l.sl ?_
  refine kk_getR (pc := 17) hX (x := some (β + 5000 + 20 * t + 6)) fl_X17_29_30 dX17_does_17 hk.k.k4 rfl hk.l.s1 ?_
  refine kk_iload_n (pc := 20) hX dX17_does_20 rfl ?_
  refine kk_aald (pc := 21) hX (x := (cr_hr β (σ.1 29 (8 * t + k)) (σ.2 28 (8 * t + k)))) k dX17_does_21 hk.k.k6 (by decide) rfl ⟨hc, by omega⟩ (hk.c.sh k hc) ?_
  refine kk_callV (pc := 22) hX (v_cput X.1 _ _ _ _ h ht hq (σ.2 28 (8 * t + k)) (σ.1 29 (8 * t + k)) _ _ rfl rfl hp (cr_hk hT (fun u hu => (h.tk u hu).k.k0) ((hv.tk t ht).sh _ hc))) dX17_does_22 (lw_V q1130 q1062 q1063 q92 q1064) rfl ⟨by decide +kernel, by decide +kernel, by show _ = some (2 : Nat); decide +kernel⟩ ⟨Nat.le_of_ble_eq_true rfl, Nat.le_of_ble_eq_true rfl, Nat.le_of_ble_eq_true rfl, Nat.le_of_ble_eq_true rfl, Nat.le_of_ble_eq_true rfl⟩ (fun q => by cases q) hk.k.k7 jc_31 rfl (fun _ _ I2 L2 r2 hP => ?_) jj_kno
  obtain ⟨rfl, rfl,  h2⟩ := hP
  have hk2 := h2.tk t ht
  by_cases hg : (σ.1 29 (8 * t + k)) = 0
  · refine kk_aload_n (pc := 25) hX dX17_does_25 rfl ?_
    refine kk_getR (pc := 26) hX (x := some (β + 5000 + 20 * t + 4)) fl_X17_19_29 dX17_does_26 hk.k.k0 rfl hk2.l.sl ?_
    refine kk_getR (pc := 29) hX (x := some (β + 5000 + 20 * t + 6)) fl_X17_29_30 dX17_does_29 hk.k.k4 rfl hk2.l.s1 ?_
    refine kk_iload_n (pc := 32) hX dX17_does_32 rfl ?_
    refine kk_aald (pc := 33) hX (x := none) k dX17_does_33 hk.k.k6 (by decide) rfl ⟨hc, by omega⟩ ((hk2.c.sh k hc).trans (if_pos hg)) ?_
    refine kk_ifnull (pc := 34) hX 47 dX17_does_34 rfl (fun _ => ?_) (fun _ q => by cases q)
    refine kk_vret (pc := 47) hX dX17_does_47 hr ⟨Nat.le_refl _, Nat.le_refl _⟩ ?_
    unfold m_d14
    rw [if_pos hg]
    exact ⟨rfl, rfl, h2⟩
  · refine kk_aload_n (pc := 25) hX dX17_does_25 rfl ?_
    refine kk_getR (pc := 26) hX (x := some (β + 5000 + 20 * t + 4)) fl_X17_19_29 dX17_does_26 hk.k.k0 rfl hk2.l.sl ?_
    refine kk_getR (pc := 29) hX (x := some (β + 5000 + 20 * t + 6)) fl_X17_29_30 dX17_does_29 hk.k.k4 rfl hk2.l.s1 ?_
    refine kk_iload_n (pc := 32) hX dX17_does_32 rfl ?_
    refine kk_aald (pc := 33) hX (x := some (β + 5000 + 20 * nv (σ.2 28 (8 * t + k)).toInt32)) k dX17_does_33 hk.k.k6 (by decide) rfl ⟨hc, by omega⟩ ((hk2.c.sh k hc).trans (if_neg hg)) ?_
    refine kk_ifnull (pc := 34) hX 47 dX17_does_34 rfl (fun q => by cases q) (fun _ _ => ?_)
    refine kk_aload_n (pc := 37) hX dX17_does_37 rfl ?_
    refine kk_getR (pc := 38) hX (x := some (β + 5000 + 20 * t + 4)) fl_X17_19_29 dX17_does_38 hk.k.k0 rfl hk2.l.sl ?_
    refine kk_iload_n (pc := 41) hX dX17_does_41 rfl ?_
    refine kk_lconst (pc := 42) hX (v := 0) dX17_does_42 (by decide) ?_
    refine kk_null (pc := 43) hX dX17_does_43 ?_
    refine kk_callV (pc := 44) hX (v_cslot X.1 _ _ _ _ h2 ht k hc 0 0 _ _ rfl rfl (fun w z => by cases z)) dX17_does_44 (lw_V q1131 q912 q913 q91 q916) rfl ⟨by decide +kernel, by decide +kernel, by show _ = some (3 : Nat); decide +kernel⟩ ⟨Nat.le_of_ble_eq_true rfl, Nat.le_of_ble_eq_true rfl, Nat.le_of_ble_eq_true rfl, Nat.le_of_ble_eq_true rfl, Nat.le_of_ble_eq_true rfl⟩ (fun q => by cases q) hk.k.k4 jc_30 rfl (fun _ _ _ L3 r3 hP => ?_) jj_kno
    obtain ⟨rfl, rfl, rfl,  h3⟩ := hP
    refine kk_vret (pc := 47) hX dX17_does_47 hr ⟨Nat.le_refl _, Nat.le_refl _⟩ ?_
    unfold m_d14
    rw [if_neg hg]
    exact ⟨rfl, rfl, h3⟩

theorem v_do14X (G : jj_G) (τ : jj_T) (I : jj_I) (L : jj_L) (r : jj_R) {β : Nat} {ss : List Nat} {e N : Nat → Nat} {ρ : jm} {σ : jm} {t : Nat} (h : cr_rel β ss e N ρ (cr_pl (σ.1 14) t (σ.1 14 t + 1)) σ τ I L r) (hv : m_inv σ) (ht : t < nv (σ.1 0 11)) (h0 : σ.1 15 t = 0) (k : Nat) (hc : k < 8) (hp : σ.1 32 t = 12) (q : Nat) (hq7 : τ q = none ∧ ¬ (1 ≤ q ∧ q ≤ 6)) (hq9 : β + 10000 ≤ q) : kk_M G yX17_does (ws_ yX17_does cX17_does 3 none) { frames := 5, cells := 1, slots := 7, locals := 112 } [jR (some 34), jR (some (β + 5000 + 20 * t)), jI (nI k)] true τ I L r jj_noP (fun a τ' I' L' r' => a = q ∧ I' q 6 = 7 ∧ cr_rel β ss e N ρ (cr_pl (σ.1 14) t (σ.1 14 t + 1)) σ τ' I' L' r') := by
  refine kk_intro "BranchCells$15" (by decide) rfl (Nat.le_of_ble_eq_true rfl) ?_
  intro X hG hX hr hN hC hF hAd
  have hk := h.tk t ht
  have hT := hv.T
  have hp9 := (hv.tk t ht).po.1
  have hq := hp9.1
  have hp12 := hp9.2
  have hs9 := (hv.tk t ht).pr.2
  have hn4 : ¬ σ.1 22 t = -4 := by rw [(hv.tk t ht).pr.1]; exact nI_n4 (by have := hv.S; omega)
  have hs := h.sg _ hs9
  refine kk_aload_n (pc := 0) hX dX17_does_0 rfl ?_
  refine kk_getR (pc := 1) hX (x := some (β + 5000 + 20 * t + 7)) fl_X17_13_29 dX17_does_1 hk.k.k0 rfl hk.l.pi ?_
  refine kk_aload_n (pc := 4) hX dX17_does_4 rfl ?_
  refine kk_getR (pc := 5) hX (x := some (β + 5000 + 20 * t + 4)) fl_X17_19_29 dX17_does_5 hk.k.k0 rfl hk.l.sl ?_
  refine kk_getR (pc := 8) hX (x := some (β + 5000 + 20 * t + 5)) fl_X17_23_30 dX17_does_8 hk.k.k4 rfl hk.l.s0 ?_
  refine kk_iload_n (pc := 11) hX dX17_does_11 rfl ?_
  refine kk_lald (pc := 12) hX k dX17_does_12 hk.k.k5 rfl rfl ⟨hc, by omega⟩ ?_
  refine kk_topL (cr_nu (σ.1 29 (8 * t + k)) (σ.2 28 (8 * t + k))) (hk.c.sn k hc) ?_
  refine kk_aload_n (pc := 13) hX dX17_does_13 rfl ?_
  refine kk_getR (pc := 14) hX (x := some (β + 5000 + 20 * t + 4)) fl_X17_19_29 dX17_does_14 hk.k.k0 rfl hk.l.sl ?_
  refine kk_getR (pc := 17) hX (x := some (β + 5000 + 20 * t + 6)) fl_X17_29_30 dX17_does_17 hk.k.k4 rfl hk.l.s1 ?_
  refine kk_iload_n (pc := 20) hX dX17_does_20 rfl ?_
  refine kk_aald (pc := 21) hX (x := (cr_hr β (σ.1 29 (8 * t + k)) (σ.2 28 (8 * t + k)))) k dX17_does_21 hk.k.k6 (by decide) rfl ⟨hc, by omega⟩ (hk.c.sh k hc) ?_
  refine kk_callV (pc := 22) hX (v_cputX X.1 _ _ _ _ h ht hp _ _ q hq7 hq9) dX17_does_22 (lw_V q1130 q1062 q1063 q92 q1064) rfl ⟨by decide +kernel, by decide +kernel, by show _ = some (2 : Nat); decide +kernel⟩ ⟨Nat.le_of_ble_eq_true rfl, Nat.le_of_ble_eq_true rfl, Nat.le_of_ble_eq_true rfl, Nat.le_of_ble_eq_true rfl, Nat.le_of_ble_eq_true rfl⟩ (fun _ => hF rfl) hk.k.k7 jc_31 rfl jj_knp (fun a9 _ _ _ _ hP => ?_)
  exact kk_out (pc := 22) hX hN ⟨Nat.le_refl _, Nat.le_refl _⟩ hP

theorem v_do18X (G : jj_G) (τ : jj_T) (I : jj_I) (L : jj_L) (r : jj_R) {β : Nat} {ss : List Nat} {e N : Nat → Nat} {ρ : jm} {σ : jm} {t : Nat} (h : cr_rel β ss e N ρ (cr_pl (σ.1 14) t (σ.1 14 t + 1)) σ τ I L r) (hv : m_inv σ) (ht : t < nv (σ.1 0 11)) (h0 : σ.1 15 t = 0) (a : Int32) (h1 : 1 ≤ nv (σ.1 32 t)) (hf : σ.1 31 (12 * t + (nv (σ.1 32 t) - 1)) = 0) (q : Nat) (hq7 : τ q = none ∧ ¬ (1 ≤ q ∧ q ≤ 6)) (hq9 : β + 10000 ≤ q) : kk_M G yX21_does (ws_ yX21_does cX21_does 3 none) { frames := 6, cells := 1, slots := 7, locals := 136 } [jR (some 38), jR (some (β + 5000 + 20 * t)), jI a] true τ I L r jj_noP (fun a τ' I' L' r' => a = q ∧ I' q 6 = 2 ∧ cr_rel β ss e N ρ (cr_pl (σ.1 14) t (σ.1 14 t + 1)) (m_s2 t 1 σ) τ' I' L' r') := by
  refine kk_intro "BranchCells$19" (by decide) rfl (Nat.le_of_ble_eq_true rfl) ?_
  intro X hG hX hr hN hC hF hAd
  have hk := h.tk t ht
  have hT := hv.T
  have hp9 := (hv.tk t ht).po.1
  have hq := hp9.1
  have hp12 := hp9.2
  have hs9 := (hv.tk t ht).pr.2
  have hn4 : ¬ σ.1 22 t = -4 := by rw [(hv.tk t ht).pr.1]; exact nI_n4 (by have := hv.S; omega)
  have hs := h.sg _ hs9
  refine kk_aload_n (pc := 0) hX dX21_does_0 rfl ?_
  refine kk_getR (pc := 1) hX (x := some 10) fl_X21_1_21 dX21_does_1 (h.ro.dd 18 (by decide)).k0 rfl (h.ro.dd 18 (by decide)).th ?_
  refine kk_aload_n (pc := 4) hX dX21_does_4 rfl ?_
  refine kk_aload_n (pc := 5) hX dX21_does_5 rfl ?_
  refine kk_getR (pc := 6) hX (x := some (β + 5000 + 20 * t + 7)) fl_X21_13_29 dX21_does_6 hk.k.k0 rfl hk.l.pi ?_
  refine kk_aload_n (pc := 9) hX dX21_does_9 rfl ?_
  refine kk_getR (pc := 10) hX (x := some (β + 5000 + 20 * t + 7)) fl_X21_13_29 dX21_does_10 hk.k.k0 rfl hk.l.pi ?_
  refine kk_callV (pc := 13) hX (v_ctake X.1 _ _ _ _ h ht hq h1) dX21_does_13 (lw_V q1153 q1075 q1076 q92 q1077) rfl ⟨by decide +kernel, by decide +kernel, by show _ = some (0 : Nat); decide +kernel⟩ ⟨Nat.le_of_ble_eq_true rfl, Nat.le_of_ble_eq_true rfl, Nat.le_of_ble_eq_true rfl, Nat.le_of_ble_eq_true rfl, Nat.le_of_ble_eq_true rfl⟩ (fun q => by cases q) hk.k.k7 jc_31 rfl (fun _ _ I2 _ _ hP => ?_) jj_kno
  obtain ⟨rfl, rfl, rfl, rfl,  h2⟩ := hP
  have hk2 := h2.tk t ht
  refine kk_callU (pc := 16) hX (owner := "BranchCells$Values") (v_VtaskX31 X.1 _ _ _ _ (β + 5000 + 20 * t + 7) (β + 5000 + 20 * t + 8) (β + 5000 + 20 * t + 9) 12 hk.k.k7 hk.l.p0 hk.l.p1 hk.k.k8 hk.k.k9 (by decide) (nv (σ.1 32 t) - 1) (by omega) ((hk.c.ph _ (by omega)).trans (if_pos hf)) q hq7) dX21_does_16 (lw_meth q1159) ⟨q1154, q1155, q1157, q1158, q91, jj_inT q1156 rfl⟩ ⟨by decide +kernel, by decide +kernel, by show _ = some (1 : Nat); decide +kernel⟩ ⟨Nat.le_of_ble_eq_true rfl, Nat.le_of_ble_eq_true rfl, Nat.le_of_ble_eq_true rfl, Nat.le_of_ble_eq_true rfl, Nat.le_of_ble_eq_true rfl⟩ (fun _ => hF rfl) hk.k.k7 jc_31 rfl jj_knp (jj_kth ?_)
  exact kk_out (pc := 16) hX hN ⟨Nat.le_refl _, Nat.le_refl _⟩ (⟨rfl, jj_us, (cr_rel.gar h2 hq7.1 hq9 (fun b hb => jj_tn hb) (fun b hb => (jj_ua hb).trans (jj_zn hb)) (fun b hb => jj_zn hb) (fun b hb => (jj_ua hb).trans ((jj_ua hb).trans ((jj_ua hb).trans ((jj_ua hb).trans ((jj_ua hb).trans ((jj_ua hb).trans ((jj_ua hb).trans (jj_zn hb)))))))))⟩)

theorem v_do21 (G : jj_G) (τ : jj_T) (I : jj_I) (L : jj_L) (r : jj_R) {β : Nat} {ss : List Nat} {e N : Nat → Nat} {ρ : jm} {σ : jm} {t : Nat} (h : cr_rel β ss e N ρ (cr_pl (σ.1 14) t (σ.1 14 t + 1)) σ τ I L r) (hv : m_inv σ) (ht : t < nv (σ.1 0 11)) (h0 : σ.1 15 t = 0) (a : Int32) (h1 : 1 ≤ nv (σ.1 32 t)) (hf : σ.1 31 (12 * t + (nv (σ.1 32 t) - 1)) = 0) (q : Nat) (hq7 : τ q = none ∧ ¬ (1 ≤ q ∧ q ≤ 6)) (hq9 : β + 10000 ≤ q) : kk_M G yX24_does (ws_ yX24_does cX24_does 3 none) { frames := 6, cells := 1, slots := 7, locals := 130 } [jR (some 41), jR (some (β + 5000 + 20 * t)), jI a] true τ I L r jj_noP (fun a τ' I' L' r' => a = q ∧ I' q 6 = (100 + ((σ.2 30 (12 * t + (nv (σ.1 32 t) - 1))) &&& 63).toInt32) ∧ cr_rel β ss e N ρ (cr_pl (σ.1 14) t (σ.1 14 t + 1)) (m_s2 t 1 σ) τ' I' L' r') := by
  refine kk_intro "BranchCells$22" (by decide) rfl (Nat.le_of_ble_eq_true rfl) ?_
  intro X hG hX hr hN hC hF hAd
  have hk := h.tk t ht
  have hT := hv.T
  have hp9 := (hv.tk t ht).po.1
  have hq := hp9.1
  have hp12 := hp9.2
  have hs9 := (hv.tk t ht).pr.2
  have hn4 : ¬ σ.1 22 t = -4 := by rw [(hv.tk t ht).pr.1]; exact nI_n4 (by have := hv.S; omega)
  have hs := h.sg _ hs9
  refine kk_new (pc := 0) hX q ⟨hq7.1, hq7.2⟩ (hF rfl) dX24_does_0 jc_32 q1204 q963 q95 (by decide) ⟨Nat.le_of_ble_eq_true rfl, Nat.le_of_ble_eq_true rfl⟩ ?_
  refine kk_dup (pc := 3) hX dX24_does_3 rfl ?_
  refine kk_bipush (pc := 4) hX (v := 100) dX24_does_4 (by decide) ?_
  refine kk_aload_n (pc := 6) hX dX24_does_6 rfl ?_
  have h2 : cr_rel β ss e N ρ (cr_pl (σ.1 14) t (σ.1 14 t + 1)) σ (jj_t τ q (.inl 32)) (jj_z I q 0) (jj_z L q 0) (jj_z r q none) := (cr_rel.gar h hq7.1 hq9 (fun b hb => jj_tn hb) (fun b hb => jj_zn hb) (fun b hb => jj_zn hb) (fun b hb => jj_zn hb))
  refine kk_callV (pc := 7) hX (v_cnum X.1 _ _ _ _ h2 ht hq h1 hf) dX24_does_7 (lw_V q1205 q1122 q1123 q88 q1124) rfl ⟨by decide +kernel, by decide +kernel, by show _ = some (0 : Nat); decide +kernel⟩ ⟨Nat.le_of_ble_eq_true rfl, Nat.le_of_ble_eq_true rfl, Nat.le_of_ble_eq_true rfl, Nat.le_of_ble_eq_true rfl, Nat.le_of_ble_eq_true rfl⟩ (fun q => by cases q) (Eq.trans (jj_tn (by omega)) hk.k.k0) jc_29 rfl (fun _ _ I3 _ _ hP => ?_) jj_kno
  obtain ⟨rfl, rfl, rfl, rfl,  h3⟩ := hP
  refine kk_ldc2 (pc := 10) hX (v := 63) q1206 dX24_does_10 ?_
  refine kk_land (pc := 13) hX dX24_does_13 ?_
  refine kk_l2i (pc := 14) hX dX24_does_14 ?_
  refine kk_iadd (pc := 15) hX dX24_does_15 ?_
  refine kk_callI (pc := 16) hX (v_Fi X.1 _ _ _ _ q jj_ts (100 + ((σ.2 30 (12 * t + (nv (σ.1 32 t) - 1))) &&& 63).toInt32)) dX24_does_16 (lw_meth q1001) ⟨q1207, q1000, q95, rfl⟩ ⟨by decide +kernel, by decide +kernel, by show _ = some (1 : Nat); decide +kernel⟩ ⟨Nat.le_of_ble_eq_true rfl, Nat.le_of_ble_eq_true rfl, Nat.le_of_ble_eq_true rfl, Nat.le_of_ble_eq_true rfl, Nat.le_of_ble_eq_true rfl⟩ (fun q => by cases q) rfl (jj_keq ?_) jj_kno
  refine kk_athrow (pc := 19) hX dX24_does_19 jj_ts ?_
  exact kk_out (pc := 19) hX hN ⟨Nat.le_refl _, Nat.le_refl _⟩ (⟨rfl, jj_us, cr_rel.gar2 h3 (h.ne hq7.1) hq9 (fun b hb => rfl) (fun b hb => jj_ua hb) (fun b hb => rfl) (fun b hb => (jj_ua hb).trans ((jj_ua hb).trans ((jj_ua hb).trans ((jj_ua hb).trans ((jj_ua hb).trans ((jj_ua hb).trans (jj_ua hb)))))))⟩)

theorem v_do21X (G : jj_G) (τ : jj_T) (I : jj_I) (L : jj_L) (r : jj_R) {β : Nat} {ss : List Nat} {e N : Nat → Nat} {ρ : jm} {σ : jm} {t : Nat} (h : cr_rel β ss e N ρ (cr_pl (σ.1 14) t (σ.1 14 t + 1)) σ τ I L r) (hv : m_inv σ) (ht : t < nv (σ.1 0 11)) (h0 : σ.1 15 t = 0) (a : Int32) (h1 : 1 ≤ nv (σ.1 32 t)) (hf : ¬ σ.1 31 (12 * t + (nv (σ.1 32 t) - 1)) = 0) (q : Nat) (hq7 : τ q = none ∧ ¬ (1 ≤ q ∧ q ≤ 6)) (hq9 : β + 10000 ≤ q) (q2 : Nat) (hq2 : τ q2 = none ∧ ¬ (1 ≤ q2 ∧ q2 ≤ 6)) (hq29 : β + 10000 ≤ q2) (hqq : q2 ≠ q) : kk_M G yX24_does (ws_ yX24_does cX24_does 3 none) { frames := 6, cells := 2, slots := 14, locals := 130 } [jR (some 41), jR (some (β + 5000 + 20 * t)), jI a] true τ I L r jj_noP (fun a τ' I' L' r' => a = q2 ∧ I' q2 6 = 2 ∧ cr_rel β ss e N ρ (cr_pl (σ.1 14) t (σ.1 14 t + 1)) (m_s2 t 1 σ) τ' I' L' r') := by
  refine kk_intro "BranchCells$22" (by decide) rfl (Nat.le_of_ble_eq_true rfl) ?_
  intro X hG hX hr hN hC hF hAd
  have hk := h.tk t ht
  have hT := hv.T
  have hp9 := (hv.tk t ht).po.1
  have hq := hp9.1
  have hp12 := hp9.2
  have hs9 := (hv.tk t ht).pr.2
  have hn4 : ¬ σ.1 22 t = -4 := by rw [(hv.tk t ht).pr.1]; exact nI_n4 (by have := hv.S; omega)
  have hs := h.sg _ hs9
  refine kk_new (pc := 0) hX q ⟨hq7.1, hq7.2⟩ (hF rfl) dX24_does_0 jc_32 q1204 q963 q95 (by decide) ⟨Nat.le_of_ble_eq_true rfl, Nat.le_of_ble_eq_true rfl⟩ ?_
  refine kk_dup (pc := 3) hX dX24_does_3 rfl ?_
  refine kk_bipush (pc := 4) hX (v := 100) dX24_does_4 (by decide) ?_
  refine kk_aload_n (pc := 6) hX dX24_does_6 rfl ?_
  have h2 : cr_rel β ss e N ρ (cr_pl (σ.1 14) t (σ.1 14 t + 1)) σ (jj_t τ q (.inl 32)) (jj_z I q 0) (jj_z L q 0) (jj_z r q none) := (cr_rel.gar h hq7.1 hq9 (fun b hb => jj_tn hb) (fun b hb => jj_zn hb) (fun b hb => jj_zn hb) (fun b hb => jj_zn hb))
  refine kk_callV (pc := 7) hX (v_cnumX X.1 _ _ _ _ h2 ht hq h1 hf q2 ⟨(jj_tn hqq).trans hq2.1, hq2.2⟩ hq29) dX24_does_7 (lw_V q1205 q1122 q1123 q88 q1124) rfl ⟨by decide +kernel, by decide +kernel, by show _ = some (0 : Nat); decide +kernel⟩ ⟨Nat.le_of_ble_eq_true rfl, Nat.le_of_ble_eq_true rfl, Nat.le_of_ble_eq_true rfl, Nat.le_of_ble_eq_true rfl, Nat.le_of_ble_eq_true rfl⟩ (fun _ => hF rfl) (Eq.trans (jj_tn (by omega)) hk.k.k0) jc_29 rfl jj_knp (fun a9 _ _ _ _ hP => ?_)
  exact kk_out (pc := 7) hX hN ⟨Nat.le_refl _, Nat.le_refl _⟩ hP
