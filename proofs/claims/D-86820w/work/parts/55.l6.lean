set_option maxRecDepth 100000
theorem s2_v {σ : jm} {t k : Nat} (hq : σ.1 32 t = nI (nv (σ.1 32 t))) (h1 : k ≤ nv (σ.1 32 t)) (h2 : nv (σ.1 32 t) ≤ 12) : nv ((m_s2 t (nI k) σ).1 32 t) = nv (σ.1 32 t) - k ∧ (m_s2 t (nI k) σ).1 32 t = nI (nv ((m_s2 t (nI k) σ).1 32 t)) := by
  have e : (m_s2 t (nI k) σ).1 32 t = nI (nv (σ.1 32 t) - k) := mu_s.trans (sz_d hq h1).symm
  have e2 : nv ((m_s2 t (nI k) σ).1 32 t) = nv (σ.1 32 t) - k := by rw [e, nv_nI (by omega)]
  exact ⟨e2, by rw [e2]; exact e⟩
theorem s2_v1 {σ : jm} {t : Nat} (hq : σ.1 32 t = nI (nv (σ.1 32 t))) (h1 : 1 ≤ nv (σ.1 32 t)) (h2 : nv (σ.1 32 t) ≤ 12) : nv ((m_s2 t 1 σ).1 32 t) = nv (σ.1 32 t) - 1 ∧ (m_s2 t 1 σ).1 32 t = nI (nv ((m_s2 t 1 σ).1 32 t)) := s2_v (k := 1) hq h1 h2
theorem s2_v2 {σ : jm} {t : Nat} (hq : σ.1 32 t = nI (nv (σ.1 32 t))) (h1 : 2 ≤ nv (σ.1 32 t)) (h2 : nv (σ.1 32 t) ≤ 12) : nv ((m_s2 t 2 σ).1 32 t) = nv (σ.1 32 t) - 2 ∧ (m_s2 t 2 σ).1 32 t = nI (nv ((m_s2 t 2 σ).1 32 t)) := s2_v (k := 2) hq h1 h2
theorem s2_2 {σ : jm} {t : Nat} (hq : σ.1 32 t = nI (nv (σ.1 32 t))) (h1 : 2 ≤ nv (σ.1 32 t)) (h2 : nv (σ.1 32 t) ≤ 12) : m_s2 t 1 (m_s2 t 1 σ) = m_s2 t 2 σ := by
  have q := s2_v (k := 1) hq (by omega) h2
  have e : (m_s2 t 1 σ).1 32 t - 1 = σ.1 32 t - 2 := by
    have a : nI (nv ((m_s2 t (nI 1) σ).1 32 t) - 1) = (m_s2 t (nI 1) σ).1 32 t - nI 1 := sz_d q.2 (by rw [q.1]; omega)
    have b : nI (nv (σ.1 32 t) - 2) = σ.1 32 t - nI 2 := sz_d hq h1
    rw [q.1, Nat.sub_sub] at a
    exact a.symm.trans b
  show m_u (m_s2 t 1 σ) 32 t ((m_s2 t 1 σ).1 32 t - 1) = m_u σ 32 t (σ.1 32 t - 2)
  rw [e]
  refine Prod.ext (funext fun a => funext fun b => ?_) rfl
  show jj_u (jj_u σ.1 32 t _) 32 t _ a b = jj_u σ.1 32 t _ a b
  unfold jj_u
  split <;> rfl
theorem cr_plpl (f : Nat → Int32) (t : Nat) (a b : Int32) : cr_pl (cr_pl f t a) t b = cr_pl f t b := by
  funext u
  unfold cr_pl
  split <;> rfl
theorem cr_hk {σ : jm} {β : Nat} {τ : jj_T} {v : Int64} {g : Int32} (hv : nv (σ.1 0 11) ≤ 40) (hk : ∀ u, u < nv (σ.1 0 11) → τ (β + 5000 + 20 * u) = some (.inl 29)) (h : ¬ g = 0 → m_hv σ v) : ∀ w, cr_hr β g v = some w → τ w = some (.inl 29) := by
  intro w hw
  unfold cr_hr at hw
  by_cases hg : g = 0
  · rw [if_pos hg] at hw; cases hw
  · rw [if_neg hg] at hw
    cases hw
    exact hk _ ((h hg).nv hv).2.1
theorem v_do0 (G : jj_G) (τ : jj_T) (I : jj_I) (L : jj_L) (r : jj_R) {β : Nat} {ss : List Nat} {e N : Nat → Nat} {ρ : jm} {σ : jm} {t : Nat} (h : cr_rel β ss e N ρ (cr_pl (σ.1 14) t (σ.1 14 t + 1)) σ τ I L r) (hv : m_inv σ) (ht : t < nv (σ.1 0 11)) (h0 : σ.1 15 t = 0) (a : Int32) (hp : nv (σ.1 32 t) < 12) : kk_M G yX2_does (ws_ yX2_does cX2_does 3 none) { frames := 6, cells := 0, slots := 0, locals := 134 } [jR (some 20), jR (some (β + 5000 + 20 * t)), jI a] false τ I L r (fun v' τ' I' L' r' => v' = none ∧ τ' = τ ∧ cr_rel β ss e N ρ (cr_pl (σ.1 14) t (σ.1 14 t + 1)) (m_push t (a).toInt64 0 σ) τ I' L' r') jj_no := by
  refine kk_intro "BranchCells$1" (by decide) rfl (Nat.le_of_ble_eq_true rfl) ?_
  intro X hG hX hr hN hC hF hAd
  have hk := h.tk t ht
  have hT := hv.T
  have hp9 := (hv.tk t ht).po.1
  have hq := hp9.1
  have hp12 := hp9.2
  have hs9 := (hv.tk t ht).pr.2
  have hn4 : ¬ σ.1 22 t = -4 := by rw [(hv.tk t ht).pr.1]; exact nI_n4 (by have := hv.S; omega)
  have hs := h.sg _ hs9
  refine kk_aload_n (pc := 0) hX dX2_does_0 rfl ?_
  refine kk_iload_n (pc := 1) hX dX2_does_1 rfl ?_
  refine kk_i2l (pc := 2) hX dX2_does_2 ?_
  refine kk_callV (pc := 3) hX (v_cTput X.1 _ _ _ _ h ht hq (a).toInt64 hp) dX2_does_3 (lw_V q1057 q1058 q1059 q88 q1060) rfl ⟨by decide +kernel, by decide +kernel, by show _ = some (1 : Nat); decide +kernel⟩ ⟨Nat.le_of_ble_eq_true rfl, Nat.le_of_ble_eq_true rfl, Nat.le_of_ble_eq_true rfl, Nat.le_of_ble_eq_true rfl, Nat.le_of_ble_eq_true rfl⟩ (fun q => by cases q) hk.k.k0 jc_29 rfl (fun _ _ I2 L2 r2 hP => ?_) jj_kno
  obtain ⟨rfl, rfl,  h2⟩ := hP
  exact kk_vret (pc := 6) hX dX2_does_6 hr ⟨Nat.le_refl _, Nat.le_refl _⟩ (⟨rfl, rfl, h2⟩)

theorem v_do0X (G : jj_G) (τ : jj_T) (I : jj_I) (L : jj_L) (r : jj_R) {β : Nat} {ss : List Nat} {e N : Nat → Nat} {ρ : jm} {σ : jm} {t : Nat} (h : cr_rel β ss e N ρ (cr_pl (σ.1 14) t (σ.1 14 t + 1)) σ τ I L r) (hv : m_inv σ) (ht : t < nv (σ.1 0 11)) (h0 : σ.1 15 t = 0) (a : Int32) (hp : σ.1 32 t = 12) (q : Nat) (hq7 : τ q = none ∧ ¬ (1 ≤ q ∧ q ≤ 6)) (hq9 : β + 10000 ≤ q) : kk_M G yX2_does (ws_ yX2_does cX2_does 3 none) { frames := 6, cells := 1, slots := 7, locals := 134 } [jR (some 20), jR (some (β + 5000 + 20 * t)), jI a] true τ I L r jj_noP (fun a τ' I' L' r' => a = q ∧ I' q 6 = 7 ∧ cr_rel β ss e N ρ (cr_pl (σ.1 14) t (σ.1 14 t + 1)) σ τ' I' L' r') := by
  refine kk_intro "BranchCells$1" (by decide) rfl (Nat.le_of_ble_eq_true rfl) ?_
  intro X hG hX hr hN hC hF hAd
  have hk := h.tk t ht
  have hT := hv.T
  have hp9 := (hv.tk t ht).po.1
  have hq := hp9.1
  have hp12 := hp9.2
  have hs9 := (hv.tk t ht).pr.2
  have hn4 : ¬ σ.1 22 t = -4 := by rw [(hv.tk t ht).pr.1]; exact nI_n4 (by have := hv.S; omega)
  have hs := h.sg _ hs9
  refine kk_aload_n (pc := 0) hX dX2_does_0 rfl ?_
  refine kk_iload_n (pc := 1) hX dX2_does_1 rfl ?_
  refine kk_i2l (pc := 2) hX dX2_does_2 ?_
  refine kk_callV (pc := 3) hX (v_cTputX X.1 _ _ _ _ h ht hp (a).toInt64 q hq7 hq9) dX2_does_3 (lw_V q1057 q1058 q1059 q88 q1060) rfl ⟨by decide +kernel, by decide +kernel, by show _ = some (1 : Nat); decide +kernel⟩ ⟨Nat.le_of_ble_eq_true rfl, Nat.le_of_ble_eq_true rfl, Nat.le_of_ble_eq_true rfl, Nat.le_of_ble_eq_true rfl, Nat.le_of_ble_eq_true rfl⟩ (fun _ => hF rfl) hk.k.k0 jc_29 rfl jj_knp (fun a9 _ _ _ _ hP => ?_)
  exact kk_out (pc := 3) hX hN ⟨Nat.le_refl _, Nat.le_refl _⟩ hP

theorem v_do1 (G : jj_G) (τ : jj_T) (I : jj_I) (L : jj_L) (r : jj_R) {β : Nat} {ss : List Nat} {e N : Nat → Nat} {ρ : jm} {σ : jm} {t : Nat} (h : cr_rel β ss e N ρ (cr_pl (σ.1 14) t (σ.1 14 t + 1)) σ τ I L r) (hv : m_inv σ) (ht : t < nv (σ.1 0 11)) (h0 : σ.1 15 t = 0) (k : Nat) (hc : k < 16) (hp : nv (σ.1 32 t) < 12) : kk_M G yX3_does (ws_ yX3_does cX3_does 3 none) { frames := 6, cells := 0, slots := 0, locals := 134 } [jR (some 21), jR (some (β + 5000 + 20 * t)), jI (nI k)] false τ I L r (fun v' τ' I' L' r' => v' = none ∧ τ' = τ ∧ cr_rel β ss e N ρ (cr_pl (σ.1 14) t (σ.1 14 t + 1)) (m_push t (m_rd k σ 170 (σ.1 22 t)) 0 σ) τ I' L' r') jj_no := by
  refine kk_intro "BranchCells$2" (by decide) rfl (Nat.le_of_ble_eq_true rfl) ?_
  intro X hG hX hr hN hC hF hAd
  have hk := h.tk t ht
  have hT := hv.T
  have hp9 := (hv.tk t ht).po.1
  have hq := hp9.1
  have hp12 := hp9.2
  have hs9 := (hv.tk t ht).pr.2
  have hn4 : ¬ σ.1 22 t = -4 := by rw [(hv.tk t ht).pr.1]; exact nI_n4 (by have := hv.S; omega)
  have hs := h.sg _ hs9
  refine kk_aload_n (pc := 0) hX dX3_does_0 rfl ?_
  refine kk_aload_n (pc := 1) hX dX3_does_1 rfl ?_
  refine kk_getR (pc := 2) hX (x := (cr_sr β (σ.1 22 t))) fl_X3_13_29 dX3_does_2 hk.k.k0 rfl hk.v.pr ?_
  refine kk_iload_n (pc := 5) hX dX3_does_5 rfl ?_
  refine kk_callS (pc := 6) hX (v_Sread X.1 _ _ _ _ h hv.und (σ.1 22 t) k hc (hv.rd ht) (Or.inr (h.ss.pr t ht (by rw [h0]; decide)))) dX3_does_6 (lw_S q1189 q1171 q87 q1172) ⟨by decide +kernel, by decide +kernel, by show _ = some (2 : Nat); decide +kernel⟩ ⟨Nat.le_of_ble_eq_true rfl, Nat.le_of_ble_eq_true rfl, Nat.le_of_ble_eq_true rfl, Nat.le_of_ble_eq_true rfl, Nat.le_of_ble_eq_true rfl⟩ (fun q => by cases q) rfl (jj_keq ?_) jj_kno
  refine kk_callV (pc := 9) hX (v_cTput X.1 _ _ _ _ h ht hq (m_rd k σ 170 (σ.1 22 t)) hp) dX3_does_9 (lw_V q1190 q1058 q1059 q88 q1060) rfl ⟨by decide +kernel, by decide +kernel, by show _ = some (1 : Nat); decide +kernel⟩ ⟨Nat.le_of_ble_eq_true rfl, Nat.le_of_ble_eq_true rfl, Nat.le_of_ble_eq_true rfl, Nat.le_of_ble_eq_true rfl, Nat.le_of_ble_eq_true rfl⟩ (fun q => by cases q) hk.k.k0 jc_29 rfl (fun _ _ I2 L2 r2 hP => ?_) jj_kno
  obtain ⟨rfl, rfl,  h2⟩ := hP
  exact kk_vret (pc := 12) hX dX3_does_12 hr ⟨Nat.le_refl _, Nat.le_refl _⟩ (⟨rfl, rfl, h2⟩)

theorem v_do1X (G : jj_G) (τ : jj_T) (I : jj_I) (L : jj_L) (r : jj_R) {β : Nat} {ss : List Nat} {e N : Nat → Nat} {ρ : jm} {σ : jm} {t : Nat} (h : cr_rel β ss e N ρ (cr_pl (σ.1 14) t (σ.1 14 t + 1)) σ τ I L r) (hv : m_inv σ) (ht : t < nv (σ.1 0 11)) (h0 : σ.1 15 t = 0) (k : Nat) (hc : k < 16) (hp : σ.1 32 t = 12) (q : Nat) (hq7 : τ q = none ∧ ¬ (1 ≤ q ∧ q ≤ 6)) (hq9 : β + 10000 ≤ q) : kk_M G yX3_does (ws_ yX3_does cX3_does 3 none) { frames := 6, cells := 1, slots := 7, locals := 134 } [jR (some 21), jR (some (β + 5000 + 20 * t)), jI (nI k)] true τ I L r jj_noP (fun a τ' I' L' r' => a = q ∧ I' q 6 = 7 ∧ cr_rel β ss e N ρ (cr_pl (σ.1 14) t (σ.1 14 t + 1)) σ τ' I' L' r') := by
  refine kk_intro "BranchCells$2" (by decide) rfl (Nat.le_of_ble_eq_true rfl) ?_
  intro X hG hX hr hN hC hF hAd
  have hk := h.tk t ht
  have hT := hv.T
  have hp9 := (hv.tk t ht).po.1
  have hq := hp9.1
  have hp12 := hp9.2
  have hs9 := (hv.tk t ht).pr.2
  have hn4 : ¬ σ.1 22 t = -4 := by rw [(hv.tk t ht).pr.1]; exact nI_n4 (by have := hv.S; omega)
  have hs := h.sg _ hs9
  refine kk_aload_n (pc := 0) hX dX3_does_0 rfl ?_
  refine kk_aload_n (pc := 1) hX dX3_does_1 rfl ?_
  refine kk_getR (pc := 2) hX (x := (cr_sr β (σ.1 22 t))) fl_X3_13_29 dX3_does_2 hk.k.k0 rfl hk.v.pr ?_
  refine kk_iload_n (pc := 5) hX dX3_does_5 rfl ?_
  refine kk_callS (pc := 6) hX (v_Sread X.1 _ _ _ _ h hv.und (σ.1 22 t) k hc (hv.rd ht) (Or.inr (h.ss.pr t ht (by rw [h0]; decide)))) dX3_does_6 (lw_S q1189 q1171 q87 q1172) ⟨by decide +kernel, by decide +kernel, by show _ = some (2 : Nat); decide +kernel⟩ ⟨Nat.le_of_ble_eq_true rfl, Nat.le_of_ble_eq_true rfl, Nat.le_of_ble_eq_true rfl, Nat.le_of_ble_eq_true rfl, Nat.le_of_ble_eq_true rfl⟩ (fun q => by cases q) rfl (jj_keq ?_) jj_kno
  refine kk_callV (pc := 9) hX (v_cTputX X.1 _ _ _ _ h ht hp (m_rd k σ 170 (σ.1 22 t)) q hq7 hq9) dX3_does_9 (lw_V q1190 q1058 q1059 q88 q1060) rfl ⟨by decide +kernel, by decide +kernel, by show _ = some (1 : Nat); decide +kernel⟩ ⟨Nat.le_of_ble_eq_true rfl, Nat.le_of_ble_eq_true rfl, Nat.le_of_ble_eq_true rfl, Nat.le_of_ble_eq_true rfl, Nat.le_of_ble_eq_true rfl⟩ (fun _ => hF rfl) hk.k.k0 jc_29 rfl jj_knp (fun a9 _ _ _ _ hP => ?_)
  exact kk_out (pc := 9) hX hN ⟨Nat.le_refl _, Nat.le_refl _⟩ hP

theorem v_do2 (G : jj_G) (τ : jj_T) (I : jj_I) (L : jj_L) (r : jj_R) {β : Nat} {ss : List Nat} {e N : Nat → Nat} {ρ : jm} {σ : jm} {t : Nat} (h : cr_rel β ss e N ρ (cr_pl (σ.1 14) t (σ.1 14 t + 1)) σ τ I L r) (hv : m_inv σ) (ht : t < nv (σ.1 0 11)) (h0 : σ.1 15 t = 0) (k : Nat) (hc : k < 16) (h1 : 1 ≤ nv (σ.1 32 t)) (hf : σ.1 31 (12 * t + (nv (σ.1 32 t) - 1)) = 0) : kk_M G yX4_does (ws_ yX4_does cX4_does 3 none) { frames := 6, cells := 0, slots := 0, locals := 130 } [jR (some 22), jR (some (β + 5000 + 20 * t)), jI (nI k)] false τ I L r (fun v' τ' I' L' r' => v' = none ∧ τ' = τ ∧ cr_rel β ss e N ρ (cr_pl (σ.1 14) t (σ.1 14 t + 1)) (m_write t k (σ.2 30 (12 * t + (nv (σ.1 32 t) - 1))) (m_s2 t 1 σ)) τ I' L' r') jj_no := by
  refine kk_intro "BranchCells$3" (by decide) rfl (Nat.le_of_ble_eq_true rfl) ?_
  intro X hG hX hr hN hC hF hAd
  have hk := h.tk t ht
  have hT := hv.T
  have hp9 := (hv.tk t ht).po.1
  have hq := hp9.1
  have hp12 := hp9.2
  have hs9 := (hv.tk t ht).pr.2
  have hn4 : ¬ σ.1 22 t = -4 := by rw [(hv.tk t ht).pr.1]; exact nI_n4 (by have := hv.S; omega)
  have hs := h.sg _ hs9
  refine kk_aload_n (pc := 0) hX dX4_does_0 rfl ?_
  refine kk_getR (pc := 1) hX (x := some (β + 1000 + 10 * nv (σ.1 22 t))) fl_X4_13_29 dX4_does_1 hk.k.k0 rfl (hk.v.pr.trans (if_neg hn4)) ?_
  refine kk_iload_n (pc := 4) hX dX4_does_4 rfl ?_
  refine kk_aload_n (pc := 5) hX dX4_does_5 rfl ?_
  refine kk_callV (pc := 6) hX (v_cnum X.1 _ _ _ _ h ht hq h1 hf) dX4_does_6 (lw_V q1211 q1122 q1123 q88 q1124) rfl ⟨by decide +kernel, by decide +kernel, by show _ = some (0 : Nat); decide +kernel⟩ ⟨Nat.le_of_ble_eq_true rfl, Nat.le_of_ble_eq_true rfl, Nat.le_of_ble_eq_true rfl, Nat.le_of_ble_eq_true rfl, Nat.le_of_ble_eq_true rfl⟩ (fun q => by cases q) hk.k.k0 jc_29 rfl (fun _ _ I2 _ _ hP => ?_) jj_kno
  obtain ⟨rfl, rfl, rfl, rfl,  h2⟩ := hP
  have hk2 := h2.tk t ht
  refine kk_callV (pc := 9) hX (v_cwrite X.1 _ _ _ _ h2 hs9 k (σ.2 30 (12 * t + (nv (σ.1 32 t) - 1))) hc) dX4_does_9 (lw_V q1212 q1182 q1183 q87 q1184) rfl ⟨by decide +kernel, by decide +kernel, by show _ = some (2 : Nat); decide +kernel⟩ ⟨Nat.le_of_ble_eq_true rfl, Nat.le_of_ble_eq_true rfl, Nat.le_of_ble_eq_true rfl, Nat.le_of_ble_eq_true rfl, Nat.le_of_ble_eq_true rfl⟩ (fun q => by cases q) hs.k0 jc_28 rfl (fun _ _ I3 L3 _ hP => ?_) jj_kno
  obtain ⟨rfl, rfl, rfl,  h3⟩ := hP
  exact kk_vret (pc := 12) hX dX4_does_12 hr ⟨Nat.le_refl _, Nat.le_refl _⟩ (⟨rfl, rfl, h3⟩)

theorem v_do2X (G : jj_G) (τ : jj_T) (I : jj_I) (L : jj_L) (r : jj_R) {β : Nat} {ss : List Nat} {e N : Nat → Nat} {ρ : jm} {σ : jm} {t : Nat} (h : cr_rel β ss e N ρ (cr_pl (σ.1 14) t (σ.1 14 t + 1)) σ τ I L r) (hv : m_inv σ) (ht : t < nv (σ.1 0 11)) (h0 : σ.1 15 t = 0) (k : Nat) (hc : k < 16) (h1 : 1 ≤ nv (σ.1 32 t)) (hf : ¬ σ.1 31 (12 * t + (nv (σ.1 32 t) - 1)) = 0) (q : Nat) (hq7 : τ q = none ∧ ¬ (1 ≤ q ∧ q ≤ 6)) (hq9 : β + 10000 ≤ q) : kk_M G yX4_does (ws_ yX4_does cX4_does 3 none) { frames := 6, cells := 1, slots := 7, locals := 130 } [jR (some 22), jR (some (β + 5000 + 20 * t)), jI (nI k)] true τ I L r jj_noP (fun a τ' I' L' r' => a = q ∧ I' q 6 = 2 ∧ cr_rel β ss e N ρ (cr_pl (σ.1 14) t (σ.1 14 t + 1)) (m_s2 t 1 σ) τ' I' L' r') := by
  refine kk_intro "BranchCells$3" (by decide) rfl (Nat.le_of_ble_eq_true rfl) ?_
  intro X hG hX hr hN hC hF hAd
  have hk := h.tk t ht
  have hT := hv.T
  have hp9 := (hv.tk t ht).po.1
  have hq := hp9.1
  have hp12 := hp9.2
  have hs9 := (hv.tk t ht).pr.2
  have hn4 : ¬ σ.1 22 t = -4 := by rw [(hv.tk t ht).pr.1]; exact nI_n4 (by have := hv.S; omega)
  have hs := h.sg _ hs9
  refine kk_aload_n (pc := 0) hX dX4_does_0 rfl ?_
  refine kk_getR (pc := 1) hX (x := some (β + 1000 + 10 * nv (σ.1 22 t))) fl_X4_13_29 dX4_does_1 hk.k.k0 rfl (hk.v.pr.trans (if_neg hn4)) ?_
  refine kk_iload_n (pc := 4) hX dX4_does_4 rfl ?_
  refine kk_aload_n (pc := 5) hX dX4_does_5 rfl ?_
  refine kk_callV (pc := 6) hX (v_cnumX X.1 _ _ _ _ h ht hq h1 hf q hq7 hq9) dX4_does_6 (lw_V q1211 q1122 q1123 q88 q1124) rfl ⟨by decide +kernel, by decide +kernel, by show _ = some (0 : Nat); decide +kernel⟩ ⟨Nat.le_of_ble_eq_true rfl, Nat.le_of_ble_eq_true rfl, Nat.le_of_ble_eq_true rfl, Nat.le_of_ble_eq_true rfl, Nat.le_of_ble_eq_true rfl⟩ (fun _ => hF rfl) hk.k.k0 jc_29 rfl jj_knp (fun a9 _ _ _ _ hP => ?_)
  exact kk_out (pc := 6) hX hN ⟨Nat.le_refl _, Nat.le_refl _⟩ hP

theorem v_do12 (G : jj_G) (τ : jj_T) (I : jj_I) (L : jj_L) (r : jj_R) {β : Nat} {ss : List Nat} {e N : Nat → Nat} {ρ : jm} {σ : jm} {t : Nat} (h : cr_rel β ss e N ρ (cr_pl (σ.1 14) t (σ.1 14 t + 1)) σ τ I L r) (hv : m_inv σ) (ht : t < nv (σ.1 0 11)) (h0 : σ.1 15 t = 0) (k : Nat) : kk_M G yX15_does (ws_ yX15_does cX15_does 3 none) { frames := 0, cells := 0, slots := 0, locals := 0 } [jR (some 32), jR (some (β + 5000 + 20 * t)), jI (nI k)] false τ I L r (fun v' τ' I' L' r' => v' = none ∧ τ' = τ ∧ cr_rel β ss e N ρ (cr_pl (σ.1 14) t (nI k)) σ τ I' L' r') jj_no := by
  refine kk_intro "BranchCells$13" (by decide) rfl (Nat.le_of_ble_eq_true rfl) ?_
  intro X hG hX hr hN hC hF hAd
  have hk := h.tk t ht
  have hT := hv.T
  have hp9 := (hv.tk t ht).po.1
  have hq := hp9.1
  have hp12 := hp9.2
  have hs9 := (hv.tk t ht).pr.2
  have hn4 : ¬ σ.1 22 t = -4 := by rw [(hv.tk t ht).pr.1]; exact nI_n4 (by have := hv.S; omega)
  have hs := h.sg _ hs9
  refine kk_aload_n (pc := 0) hX dX15_does_0 rfl ?_
  refine kk_iload_n (pc := 1) hX dX15_does_1 rfl ?_
  refine kk_putI (pc := 2) hX fl_X15_13_29 dX15_does_2 hk.k.k0 rfl rfl ?_
  exact kk_vret (pc := 5) hX dX15_does_5 hr ⟨Nat.le_refl _, Nat.le_refl _⟩ (⟨rfl, rfl, cr_plpl (σ.1 14) t (σ.1 14 t + 1) (nI k) ▸ at_pl h ht (nI k)⟩)

theorem v_do13 (G : jj_G) (τ : jj_T) (I : jj_I) (L : jj_L) (r : jj_R) {β : Nat} {ss : List Nat} {e N : Nat → Nat} {ρ : jm} {σ : jm} {t : Nat} (h : cr_rel β ss e N ρ (cr_pl (σ.1 14) t (σ.1 14 t + 1)) σ τ I L r) (hv : m_inv σ) (ht : t < nv (σ.1 0 11)) (h0 : σ.1 15 t = 0) (k : Nat) (h1 : 1 ≤ nv (σ.1 32 t)) (hf : σ.1 31 (12 * t + (nv (σ.1 32 t) - 1)) = 0) : kk_M G yX16_does (ws_ yX16_does cX16_does 3 none) { frames := 6, cells := 0, slots := 0, locals := 130 } [jR (some 33), jR (some (β + 5000 + 20 * t)), jI (nI k)] false τ I L r (fun v' τ' I' L' r' => v' = none ∧ τ' = τ ∧ cr_rel β ss e N ρ (cr_pl (σ.1 14) t (if (σ.2 30 (12 * t + (nv (σ.1 32 t) - 1))) = 0 then nI k else σ.1 14 t + 1)) (m_s2 t 1 σ) τ I' L' r') jj_no := by
  refine kk_intro "BranchCells$14" (by decide) rfl (Nat.le_of_ble_eq_true rfl) ?_
  intro X hG hX hr hN hC hF hAd
  have hk := h.tk t ht
  have hT := hv.T
  have hp9 := (hv.tk t ht).po.1
  have hq := hp9.1
  have hp12 := hp9.2
  have hs9 := (hv.tk t ht).pr.2
  have hn4 : ¬ σ.1 22 t = -4 := by rw [(hv.tk t ht).pr.1]; exact nI_n4 (by have := hv.S; omega)
  have hs := h.sg _ hs9
  refine kk_aload_n (pc := 0) hX dX16_does_0 rfl ?_
  refine kk_aload_n (pc := 1) hX dX16_does_1 rfl ?_
  refine kk_callV (pc := 2) hX (v_cnum X.1 _ _ _ _ h ht hq h1 hf) dX16_does_2 (lw_V q1121 q1122 q1123 q88 q1124) rfl ⟨by decide +kernel, by decide +kernel, by show _ = some (0 : Nat); decide +kernel⟩ ⟨Nat.le_of_ble_eq_true rfl, Nat.le_of_ble_eq_true rfl, Nat.le_of_ble_eq_true rfl, Nat.le_of_ble_eq_true rfl, Nat.le_of_ble_eq_true rfl⟩ (fun q => by cases q) hk.k.k0 jc_29 rfl (fun _ _ I2 _ _ hP => ?_) jj_kno
  obtain ⟨rfl, rfl, rfl, rfl,  h2⟩ := hP
  have hk2 := h2.tk t ht
  refine kk_lconst (pc := 5) hX (v := 0) dX16_does_5 (by decide) ?_
  refine kk_lcmp (pc := 6) hX dX16_does_6 ?_
  refine kk_if_ne (pc := 7) hX 14 dX16_does_7 rfl (fun h7 => ?_) (fun h7 => ?_)
  · have h7 := (not_congr (lg_cmp_eq (σ.2 30 (12 * t + (nv (σ.1 32 t) - 1))) 0)).mp h7
    refine kk_aload_n (pc := 14) hX dX16_does_14 rfl ?_
    refine kk_getI (pc := 15) hX fl_X16_19_29 dX16_does_15 hk.k.k0 rfl ?_
    refine kk_top ((cr_pl (σ.1 14) t (σ.1 14 t + 1)) t) hk2.v.pl ?_
    refine kk_top (σ.1 14 t + 1) (if_pos rfl) ?_
    refine kk_putI (pc := 18) hX fl_X16_19_29 dX16_does_18 hk.k.k0 rfl rfl ?_
    refine kk_vret (pc := 21) hX dX16_does_21 hr ⟨Nat.le_refl _, Nat.le_refl _⟩ ?_
    rw [if_neg h7]
    exact ⟨rfl, rfl, cr_plpl (σ.1 14) t (σ.1 14 t + 1) _ ▸ at_pl h2 ht _⟩
  · have h7 := (lg_cmp_eq (σ.2 30 (12 * t + (nv (σ.1 32 t) - 1))) 0).mp h7
    refine kk_iload_n (pc := 10) hX dX16_does_10 rfl ?_
    refine kk_goto (pc := 11) hX 18 dX16_does_11 rfl ?_
    refine kk_putI (pc := 18) hX fl_X16_19_29 dX16_does_18 hk.k.k0 rfl rfl ?_
    refine kk_vret (pc := 21) hX dX16_does_21 hr ⟨Nat.le_refl _, Nat.le_refl _⟩ ?_
    rw [if_pos h7]
    exact ⟨rfl, rfl, cr_plpl (σ.1 14) t (σ.1 14 t + 1) _ ▸ at_pl h2 ht _⟩

theorem v_do13X (G : jj_G) (τ : jj_T) (I : jj_I) (L : jj_L) (r : jj_R) {β : Nat} {ss : List Nat} {e N : Nat → Nat} {ρ : jm} {σ : jm} {t : Nat} (h : cr_rel β ss e N ρ (cr_pl (σ.1 14) t (σ.1 14 t + 1)) σ τ I L r) (hv : m_inv σ) (ht : t < nv (σ.1 0 11)) (h0 : σ.1 15 t = 0) (k : Nat) (h1 : 1 ≤ nv (σ.1 32 t)) (hf : ¬ σ.1 31 (12 * t + (nv (σ.1 32 t) - 1)) = 0) (q : Nat) (hq7 : τ q = none ∧ ¬ (1 ≤ q ∧ q ≤ 6)) (hq9 : β + 10000 ≤ q) : kk_M G yX16_does (ws_ yX16_does cX16_does 3 none) { frames := 6, cells := 1, slots := 7, locals := 130 } [jR (some 33), jR (some (β + 5000 + 20 * t)), jI (nI k)] true τ I L r jj_noP (fun a τ' I' L' r' => a = q ∧ I' q 6 = 2 ∧ cr_rel β ss e N ρ (cr_pl (σ.1 14) t (σ.1 14 t + 1)) (m_s2 t 1 σ) τ' I' L' r') := by
  refine kk_intro "BranchCells$14" (by decide) rfl (Nat.le_of_ble_eq_true rfl) ?_
  intro X hG hX hr hN hC hF hAd
  have hk := h.tk t ht
  have hT := hv.T
  have hp9 := (hv.tk t ht).po.1
  have hq := hp9.1
  have hp12 := hp9.2
  have hs9 := (hv.tk t ht).pr.2
  have hn4 : ¬ σ.1 22 t = -4 := by rw [(hv.tk t ht).pr.1]; exact nI_n4 (by have := hv.S; omega)
  have hs := h.sg _ hs9
  refine kk_aload_n (pc := 0) hX dX16_does_0 rfl ?_
  refine kk_aload_n (pc := 1) hX dX16_does_1 rfl ?_
  refine kk_callV (pc := 2) hX (v_cnumX X.1 _ _ _ _ h ht hq h1 hf q hq7 hq9) dX16_does_2 (lw_V q1121 q1122 q1123 q88 q1124) rfl ⟨by decide +kernel, by decide +kernel, by show _ = some (0 : Nat); decide +kernel⟩ ⟨Nat.le_of_ble_eq_true rfl, Nat.le_of_ble_eq_true rfl, Nat.le_of_ble_eq_true rfl, Nat.le_of_ble_eq_true rfl, Nat.le_of_ble_eq_true rfl⟩ (fun _ => hF rfl) hk.k.k0 jc_29 rfl jj_knp (fun a9 _ _ _ _ hP => ?_)
  exact kk_out (pc := 2) hX hN ⟨Nat.le_refl _, Nat.le_refl _⟩ hP

theorem v_do16 (G : jj_G) (τ : jj_T) (I : jj_I) (L : jj_L) (r : jj_R) {β : Nat} {ss : List Nat} {e N : Nat → Nat} {ρ : jm} {σ : jm} {t : Nat} (h : cr_rel β ss e N ρ (cr_pl (σ.1 14) t (σ.1 14 t + 1)) σ τ I L r) (hv : m_inv σ) (ht : t < nv (σ.1 0 11)) (h0 : σ.1 15 t = 0) (a : Int32) (h1 : 1 ≤ nv (σ.1 32 t)) : kk_M G yX19_does (ws_ yX19_does cX19_does 3 none) { frames := 1, cells := 0, slots := 0, locals := 20 } [jR (some 36), jR (some (β + 5000 + 20 * t)), jI a] false τ I L r (fun v' τ' I' L' r' => v' = none ∧ τ' = τ ∧ cr_rel β ss e N ρ (cr_pl (σ.1 14) t (σ.1 14 t + 1)) (m_s2 t 1 σ) τ I' L' r') jj_no := by
  refine kk_intro "BranchCells$17" (by decide) rfl (Nat.le_of_ble_eq_true rfl) ?_
  intro X hG hX hr hN hC hF hAd
  have hk := h.tk t ht
  have hT := hv.T
  have hp9 := (hv.tk t ht).po.1
  have hq := hp9.1
  have hp12 := hp9.2
  have hs9 := (hv.tk t ht).pr.2
  have hn4 : ¬ σ.1 22 t = -4 := by rw [(hv.tk t ht).pr.1]; exact nI_n4 (by have := hv.S; omega)
  have hs := h.sg _ hs9
  refine kk_aload_n (pc := 0) hX dX19_does_0 rfl ?_
  refine kk_getR (pc := 1) hX (x := some (β + 5000 + 20 * t + 7)) fl_X19_13_29 dX19_does_1 hk.k.k0 rfl hk.l.pi ?_
  refine kk_callV (pc := 4) hX (v_ctake X.1 _ _ _ _ h ht hq h1) dX19_does_4 (lw_V q1140 q1075 q1076 q92 q1077) rfl ⟨by decide +kernel, by decide +kernel, by show _ = some (0 : Nat); decide +kernel⟩ ⟨Nat.le_of_ble_eq_true rfl, Nat.le_of_ble_eq_true rfl, Nat.le_of_ble_eq_true rfl, Nat.le_of_ble_eq_true rfl, Nat.le_of_ble_eq_true rfl⟩ (fun q => by cases q) hk.k.k7 jc_31 rfl (fun _ _ I2 _ _ hP => ?_) jj_kno
  obtain ⟨rfl, rfl, rfl, rfl,  h2⟩ := hP
  have hk2 := h2.tk t ht
  refine kk_pop (pc := 7) hX dX19_does_7 rfl ?_
  exact kk_vret (pc := 8) hX dX19_does_8 hr ⟨Nat.le_refl _, Nat.le_refl _⟩ (⟨rfl, rfl, h2⟩)

theorem v_do15 (G : jj_G) (τ : jj_T) (I : jj_I) (L : jj_L) (r : jj_R) {β : Nat} {ss : List Nat} {e N : Nat → Nat} {ρ : jm} {σ : jm} {t : Nat} (h : cr_rel β ss e N ρ (cr_pl (σ.1 14) t (σ.1 14 t + 1)) σ τ I L r) (hv : m_inv σ) (ht : t < nv (σ.1 0 11)) (h0 : σ.1 15 t = 0) (k : Nat) (hc : k < 8) (h1 : 1 ≤ nv (σ.1 32 t)) : kk_M G yX18_does (ws_ yX18_does cX18_does 4 none) { frames := 1, cells := 0, slots := 0, locals := 24 } [jR (some 35), jR (some (β + 5000 + 20 * t)), jI (nI k)] false τ I L r (fun v' τ' I' L' r' => v' = none ∧ τ' = τ ∧ cr_rel β ss e N ρ (cr_pl (σ.1 14) t (σ.1 14 t + 1)) (m_u (m_v (m_s2 t 1 σ) 28 (8 * t + k) (σ.2 30 (12 * t + (nv (σ.1 32 t) - 1)))) 29 (8 * t + k) (σ.1 31 (12 * t + (nv (σ.1 32 t) - 1)))) τ I' L' r') jj_no := by
  refine kk_intro "BranchCells$16" (by decide) rfl (Nat.le_of_ble_eq_true rfl) ?_
  intro X hG hX hr hN hC hF hAd
  have hk := h.tk t ht
  have hT := hv.T
  have hp9 := (hv.tk t ht).po.1
  have hq := hp9.1
  have hp12 := hp9.2
  have hs9 := (hv.tk t ht).pr.2
  have hn4 : ¬ σ.1 22 t = -4 := by rw [(hv.tk t ht).pr.1]; exact nI_n4 (by have := hv.S; omega)
  have hs := h.sg _ hs9
  refine kk_aload_n (pc := 0) hX dX18_does_0 rfl ?_
  refine kk_getR (pc := 1) hX (x := some (β + 5000 + 20 * t + 7)) fl_X18_13_29 dX18_does_1 hk.k.k0 rfl hk.l.pi ?_
  refine kk_callV (pc := 4) hX (v_ctake X.1 _ _ _ _ h ht hq h1) dX18_does_4 (lw_V q1135 q1075 q1076 q92 q1077) rfl ⟨by decide +kernel, by decide +kernel, by show _ = some (0 : Nat); decide +kernel⟩ ⟨Nat.le_of_ble_eq_true rfl, Nat.le_of_ble_eq_true rfl, Nat.le_of_ble_eq_true rfl, Nat.le_of_ble_eq_true rfl, Nat.le_of_ble_eq_true rfl⟩ (fun q => by cases q) hk.k.k7 jc_31 rfl (fun _ _ I2 _ _ hP => ?_) jj_kno
  obtain ⟨rfl, rfl, rfl, rfl,  h2⟩ := hP
  have hk2 := h2.tk t ht
  refine kk_istore_n (pc := 7) hX dX18_does_7 (by decide) ?_
  refine kk_aload_n (pc := 8) hX dX18_does_8 rfl ?_
  refine kk_getR (pc := 9) hX (x := some (β + 5000 + 20 * t + 4)) fl_X18_25_29 dX18_does_9 hk.k.k0 rfl hk2.l.sl ?_
  refine kk_iload_n (pc := 12) hX dX18_does_12 rfl ?_
  refine kk_aload_n (pc := 13) hX dX18_does_13 rfl ?_
  refine kk_getR (pc := 14) hX (x := some (β + 5000 + 20 * t + 7)) fl_X18_13_29 dX18_does_14 hk.k.k0 rfl hk2.l.pi ?_
  refine kk_getR (pc := 17) hX (x := some (β + 5000 + 20 * t + 8)) fl_X18_29_31 dX18_does_17 hk.k.k7 rfl hk2.l.p0 ?_
  refine kk_iload_n (pc := 20) hX dX18_does_20 rfl ?_
  refine kk_lald (pc := 21) hX (nv (σ.1 32 t) - 1) dX18_does_21 hk.k.k8 rfl rfl ⟨by omega, by omega⟩ ?_
  refine kk_topL (cr_nu (σ.1 31 (12 * t + (nv (σ.1 32 t) - 1))) (σ.2 30 (12 * t + (nv (σ.1 32 t) - 1)))) (hk.c.pn _ (by omega)) ?_
  refine kk_aload_n (pc := 22) hX dX18_does_22 rfl ?_
  refine kk_getR (pc := 23) hX (x := some (β + 5000 + 20 * t + 7)) fl_X18_13_29 dX18_does_23 hk.k.k0 rfl hk2.l.pi ?_
  refine kk_getR (pc := 26) hX (x := some (β + 5000 + 20 * t + 9)) fl_X18_33_31 dX18_does_26 hk.k.k7 rfl hk2.l.p1 ?_
  refine kk_iload_n (pc := 29) hX dX18_does_29 rfl ?_
  refine kk_aald (pc := 30) hX (x := (cr_hr β (σ.1 31 (12 * t + (nv (σ.1 32 t) - 1))) (σ.2 30 (12 * t + (nv (σ.1 32 t) - 1))))) (nv (σ.1 32 t) - 1) dX18_does_30 hk.k.k9 (by decide) rfl ⟨by omega, by omega⟩ (hk.c.ph _ (by omega)) ?_
  refine kk_callV (pc := 31) hX (v_cslot X.1 _ _ _ _ h2 ht k hc (σ.2 30 (12 * t + (nv (σ.1 32 t) - 1))) (σ.1 31 (12 * t + (nv (σ.1 32 t) - 1))) _ _ rfl rfl (cr_hk hT (fun u hu => (h.tk u hu).k.k0) ((hv.tk t ht).ph _ (by omega)))) dX18_does_31 (lw_V q1136 q912 q913 q91 q916) rfl ⟨by decide +kernel, by decide +kernel, by show _ = some (3 : Nat); decide +kernel⟩ ⟨Nat.le_of_ble_eq_true rfl, Nat.le_of_ble_eq_true rfl, Nat.le_of_ble_eq_true rfl, Nat.le_of_ble_eq_true rfl, Nat.le_of_ble_eq_true rfl⟩ (fun q => by cases q) hk.k.k4 jc_30 rfl (fun _ _ _ L3 r3 hP => ?_) jj_kno
  obtain ⟨rfl, rfl, rfl,  h3⟩ := hP
  exact kk_vret (pc := 34) hX dX18_does_34 hr ⟨Nat.le_refl _, Nat.le_refl _⟩ (⟨rfl, rfl, h3⟩)

theorem v_do20 (G : jj_G) (τ : jj_T) (I : jj_I) (L : jj_L) (r : jj_R) {β : Nat} {ss : List Nat} {e N : Nat → Nat} {ρ : jm} {σ : jm} {t : Nat} (h : cr_rel β ss e N ρ (cr_pl (σ.1 14) t (σ.1 14 t + 1)) σ τ I L r) (hv : m_inv σ) (ht : t < nv (σ.1 0 11)) (h0 : σ.1 15 t = 0) (a : Int32) (h1 : 1 ≤ nv (σ.1 32 t)) : kk_M G yX23_does (ws_ yX23_does cX23_does 4 none) { frames := 2, cells := 0, slots := 0, locals := 47 } [jR (some 40), jR (some (β + 5000 + 20 * t)), jI a] false τ I L r (fun v' τ' I' L' r' => v' = none ∧ τ' = τ ∧ cr_rel β ss e N ρ (cr_pl (σ.1 14) t (σ.1 14 t + 1)) (m_ends t (σ.2 30 (12 * t + (nv (σ.1 32 t) - 1))) (σ.1 31 (12 * t + (nv (σ.1 32 t) - 1))) (m_s2 t 1 σ)) τ I' L' r') jj_no := by
  refine kk_intro "BranchCells$21" (by decide) rfl (Nat.le_of_ble_eq_true rfl) ?_
  intro X hG hX hr hN hC hF hAd
  have hk := h.tk t ht
  have hT := hv.T
  have hp9 := (hv.tk t ht).po.1
  have hq := hp9.1
  have hp12 := hp9.2
  have hs9 := (hv.tk t ht).pr.2
  have hn4 : ¬ σ.1 22 t = -4 := by rw [(hv.tk t ht).pr.1]; exact nI_n4 (by have := hv.S; omega)
  have hs := h.sg _ hs9
  refine kk_aload_n (pc := 0) hX dX23_does_0 rfl ?_
  refine kk_getR (pc := 1) hX (x := some (β + 5000 + 20 * t + 7)) fl_X23_13_29 dX23_does_1 hk.k.k0 rfl hk.l.pi ?_
  refine kk_callV (pc := 4) hX (v_ctake X.1 _ _ _ _ h ht hq h1) dX23_does_4 (lw_V q1199 q1075 q1076 q92 q1077) rfl ⟨by decide +kernel, by decide +kernel, by show _ = some (0 : Nat); decide +kernel⟩ ⟨Nat.le_of_ble_eq_true rfl, Nat.le_of_ble_eq_true rfl, Nat.le_of_ble_eq_true rfl, Nat.le_of_ble_eq_true rfl, Nat.le_of_ble_eq_true rfl⟩ (fun q => by cases q) hk.k.k7 jc_31 rfl (fun _ _ I2 _ _ hP => ?_) jj_kno
  obtain ⟨rfl, rfl, rfl, rfl,  h2⟩ := hP
  have hk2 := h2.tk t ht
  refine kk_istore_n (pc := 7) hX dX23_does_7 (by decide) ?_
  refine kk_aload_n (pc := 8) hX dX23_does_8 rfl ?_
  refine kk_aload_n (pc := 9) hX dX23_does_9 rfl ?_
  refine kk_getR (pc := 10) hX (x := some (β + 5000 + 20 * t + 7)) fl_X23_13_29 dX23_does_10 hk.k.k0 rfl hk2.l.pi ?_
  refine kk_getR (pc := 13) hX (x := some (β + 5000 + 20 * t + 8)) fl_X23_25_31 dX23_does_13 hk.k.k7 rfl hk2.l.p0 ?_
  refine kk_iload_n (pc := 16) hX dX23_does_16 rfl ?_
  refine kk_lald (pc := 17) hX (nv (σ.1 32 t) - 1) dX23_does_17 hk.k.k8 rfl rfl ⟨by omega, by omega⟩ ?_
  refine kk_topL (cr_nu (σ.1 31 (12 * t + (nv (σ.1 32 t) - 1))) (σ.2 30 (12 * t + (nv (σ.1 32 t) - 1)))) (hk.c.pn _ (by omega)) ?_
  refine kk_aload_n (pc := 18) hX dX23_does_18 rfl ?_
  refine kk_getR (pc := 19) hX (x := some (β + 5000 + 20 * t + 7)) fl_X23_13_29 dX23_does_19 hk.k.k0 rfl hk2.l.pi ?_
  refine kk_getR (pc := 22) hX (x := some (β + 5000 + 20 * t + 9)) fl_X23_29_31 dX23_does_22 hk.k.k7 rfl hk2.l.p1 ?_
  refine kk_iload_n (pc := 25) hX dX23_does_25 rfl ?_
  refine kk_aald (pc := 26) hX (x := (cr_hr β (σ.1 31 (12 * t + (nv (σ.1 32 t) - 1))) (σ.2 30 (12 * t + (nv (σ.1 32 t) - 1))))) (nv (σ.1 32 t) - 1) dX23_does_26 hk.k.k9 (by decide) rfl ⟨by omega, by omega⟩ (hk.c.ph _ (by omega)) ?_
  refine kk_callV (pc := 27) hX (v_cends X.1 _ _ _ _ h2 ht (σ.2 30 (12 * t + (nv (σ.1 32 t) - 1))) (σ.1 31 (12 * t + (nv (σ.1 32 t) - 1))) _ _ rfl rfl h0 (cr_hk hT (fun u hu => (h.tk u hu).k.k0) ((hv.tk t ht).ph _ (by omega)))) dX23_does_27 (lw_V q1200 q922 q923 q88 q924) rfl ⟨by decide +kernel, by decide +kernel, by show _ = some (2 : Nat); decide +kernel⟩ ⟨Nat.le_of_ble_eq_true rfl, Nat.le_of_ble_eq_true rfl, Nat.le_of_ble_eq_true rfl, Nat.le_of_ble_eq_true rfl, Nat.le_of_ble_eq_true rfl⟩ (fun q => by cases q) hk.k.k0 jc_29 rfl (fun _ _ _ L3 r3 hP => ?_) jj_kno
  obtain ⟨rfl, rfl, rfl,  h3⟩ := hP
  exact kk_vret (pc := 30) hX dX23_does_30 hr ⟨Nat.le_refl _, Nat.le_refl _⟩ (⟨rfl, rfl, h3⟩)

theorem v_do19 (G : jj_G) (τ : jj_T) (I : jj_I) (L : jj_L) (r : jj_R) {β : Nat} {ss : List Nat} {e N : Nat → Nat} {ρ : jm} {σ : jm} {t : Nat} (h : cr_rel β ss e N ρ (cr_pl (σ.1 14) t (σ.1 14 t + 1)) σ τ I L r) (hv : m_inv σ) (ht : t < nv (σ.1 0 11)) (h0 : σ.1 15 t = 0) (a : Int32) (h1 : 1 ≤ nv (σ.1 32 t)) (hf : σ.1 31 (12 * t + (nv (σ.1 32 t) - 1)) = 0) : kk_M G yX22_does (ws_ yX22_does cX22_does 3 none) { frames := 6, cells := 0, slots := 0, locals := 130 } [jR (some 39), jR (some (β + 5000 + 20 * t)), jI a] false τ I L r (fun v' τ' I' L' r' => v' = none ∧ τ' = τ ∧ cr_rel β ss e N ρ (cr_pl (σ.1 14) t (σ.1 14 t + 1)) (m_tell t (σ.2 30 (12 * t + (nv (σ.1 32 t) - 1))) (m_s2 t 1 σ)) τ I' L' r') jj_no := by
  refine kk_intro "BranchCells$20" (by decide) rfl (Nat.le_of_ble_eq_true rfl) ?_
  intro X hG hX hr hN hC hF hAd
  have hk := h.tk t ht
  have hT := hv.T
  have hp9 := (hv.tk t ht).po.1
  have hq := hp9.1
  have hp12 := hp9.2
  have hs9 := (hv.tk t ht).pr.2
  have hn4 : ¬ σ.1 22 t = -4 := by rw [(hv.tk t ht).pr.1]; exact nI_n4 (by have := hv.S; omega)
  have hs := h.sg _ hs9
  refine kk_aload_n (pc := 0) hX dX22_does_0 rfl ?_
  refine kk_aload_n (pc := 1) hX dX22_does_1 rfl ?_
  refine kk_callV (pc := 2) hX (v_cnum X.1 _ _ _ _ h ht hq h1 hf) dX22_does_2 (lw_V q1194 q1122 q1123 q88 q1124) rfl ⟨by decide +kernel, by decide +kernel, by show _ = some (0 : Nat); decide +kernel⟩ ⟨Nat.le_of_ble_eq_true rfl, Nat.le_of_ble_eq_true rfl, Nat.le_of_ble_eq_true rfl, Nat.le_of_ble_eq_true rfl, Nat.le_of_ble_eq_true rfl⟩ (fun q => by cases q) hk.k.k0 jc_29 rfl (fun _ _ I2 _ _ hP => ?_) jj_kno
  obtain ⟨rfl, rfl, rfl, rfl,  h2⟩ := hP
  have hk2 := h2.tk t ht
  refine kk_callV (pc := 5) hX (v_ctell X.1 _ _ _ _ h2 ht (hv.tk t ht).po.2.1 (σ.2 30 (12 * t + (nv (σ.1 32 t) - 1)))) dX22_does_5 (lw_V q1195 q1165 q1166 q88 q1167) rfl ⟨by decide +kernel, by decide +kernel, by show _ = some (1 : Nat); decide +kernel⟩ ⟨Nat.le_of_ble_eq_true rfl, Nat.le_of_ble_eq_true rfl, Nat.le_of_ble_eq_true rfl, Nat.le_of_ble_eq_true rfl, Nat.le_of_ble_eq_true rfl⟩ (fun q => by cases q) hk.k.k0 jc_29 rfl (fun _ _ I3 L3 _ hP => ?_) jj_kno
  obtain ⟨rfl, rfl, rfl,  h3⟩ := hP
  exact kk_vret (pc := 8) hX dX22_does_8 hr ⟨Nat.le_refl _, Nat.le_refl _⟩ (⟨rfl, rfl, h3⟩)

theorem v_do19X (G : jj_G) (τ : jj_T) (I : jj_I) (L : jj_L) (r : jj_R) {β : Nat} {ss : List Nat} {e N : Nat → Nat} {ρ : jm} {σ : jm} {t : Nat} (h : cr_rel β ss e N ρ (cr_pl (σ.1 14) t (σ.1 14 t + 1)) σ τ I L r) (hv : m_inv σ) (ht : t < nv (σ.1 0 11)) (h0 : σ.1 15 t = 0) (a : Int32) (h1 : 1 ≤ nv (σ.1 32 t)) (hf : ¬ σ.1 31 (12 * t + (nv (σ.1 32 t) - 1)) = 0) (q : Nat) (hq7 : τ q = none ∧ ¬ (1 ≤ q ∧ q ≤ 6)) (hq9 : β + 10000 ≤ q) : kk_M G yX22_does (ws_ yX22_does cX22_does 3 none) { frames := 6, cells := 1, slots := 7, locals := 130 } [jR (some 39), jR (some (β + 5000 + 20 * t)), jI a] true τ I L r jj_noP (fun a τ' I' L' r' => a = q ∧ I' q 6 = 2 ∧ cr_rel β ss e N ρ (cr_pl (σ.1 14) t (σ.1 14 t + 1)) (m_s2 t 1 σ) τ' I' L' r') := by
  refine kk_intro "BranchCells$20" (by decide) rfl (Nat.le_of_ble_eq_true rfl) ?_
  intro X hG hX hr hN hC hF hAd
  have hk := h.tk t ht
  have hT := hv.T
  have hp9 := (hv.tk t ht).po.1
  have hq := hp9.1
  have hp12 := hp9.2
  have hs9 := (hv.tk t ht).pr.2
  have hn4 : ¬ σ.1 22 t = -4 := by rw [(hv.tk t ht).pr.1]; exact nI_n4 (by have := hv.S; omega)
  have hs := h.sg _ hs9
  refine kk_aload_n (pc := 0) hX dX22_does_0 rfl ?_
  refine kk_aload_n (pc := 1) hX dX22_does_1 rfl ?_
  refine kk_callV (pc := 2) hX (v_cnumX X.1 _ _ _ _ h ht hq h1 hf q hq7 hq9) dX22_does_2 (lw_V q1194 q1122 q1123 q88 q1124) rfl ⟨by decide +kernel, by decide +kernel, by show _ = some (0 : Nat); decide +kernel⟩ ⟨Nat.le_of_ble_eq_true rfl, Nat.le_of_ble_eq_true rfl, Nat.le_of_ble_eq_true rfl, Nat.le_of_ble_eq_true rfl, Nat.le_of_ble_eq_true rfl⟩ (fun _ => hF rfl) hk.k.k0 jc_29 rfl jj_knp (fun a9 _ _ _ _ hP => ?_)
  exact kk_out (pc := 2) hX hN ⟨Nat.le_refl _, Nat.le_refl _⟩ hP
