set_option maxRecDepth 100000
theorem fk_32 {t : Nat} {ob fr : Int32} {v : Int64} {g on ab b : Int32} {σ : jm} (ht : t < nv (σ.1 0 11)) : (m_nt ob fr v g on ab (m_ns b (m_f1 t σ))).1 32 t = σ.1 32 t := by
  have e : (m_ns b (m_f1 t σ)).1 0 11 = σ.1 0 11 := by rw [m_ns_11 (by decide), m_f1_11 (by decide)]
  rw [m_nt_e, (m_eb_o (by rw [e]; omega)).1, (m_tn_o (by unfold cr_tcell; rw [e]; omega)).1, m_ns_t (by decide), m_f1_o (by decide)]
theorem fk_11 {t : Nat} {ob fr : Int32} {v : Int64} {g on ab b : Int32} {σ : jm} : (m_nt ob fr v g on ab (m_ns b (m_f1 t σ))).1 0 11 = σ.1 0 11 + 1 := by
  rw [m_nt_e, m_eb_k (by decide), m_tn_0, m_ns_11 (by decide), m_f1_11 (by decide)]
theorem v_do17A (G : jj_G) (τ : jj_T) (I : jj_I) (L : jj_L) (r : jj_R) {β : Nat} {ss : List Nat} {e N : Nat → Nat} {ρ : jm} {σ : jm} {t : Nat} (h : cr_rel β ss e N ρ (cr_pl (σ.1 14) t (σ.1 14 t + 1)) σ τ I L r) (hv : m_inv σ) (ht : t < nv (σ.1 0 11)) (h0 : σ.1 15 t = 0) (k : Nat) (h1 : 1 ≤ nv (σ.1 32 t)) (ho1 : nv (σ.1 0 0) ≤ k) (ho2 : k < 100) (q : Nat) (hq7 : τ q = none ∧ ¬ (1 ≤ q ∧ q ≤ 6)) (hq9 : β + 10000 ≤ q) : kk_M G yX20_does (ws_ yX20_does cX20_does 7 none) { frames := 9, cells := 1, slots := 7, locals := 219 } [jR (some 37), jR (some (β + 5000 + 20 * t)), jI (nI k)] true τ I L r jj_noP (fun a τ' I' L' r' => a = q ∧ I' q 6 = 10 ∧ cr_rel β ss e N ρ (cr_pl (σ.1 14) t (σ.1 14 t + 1)) (m_s2 t 1 σ) τ' I' L' r') := by
  refine kk_intro "BranchCells$18" (by decide) rfl (Nat.le_of_ble_eq_true rfl) ?_
  intro X hG hX hr hN hC hF hAd
  have hk := h.tk t ht
  have hT := hv.T
  have hp9 := (hv.tk t ht).po.1
  have hq := hp9.1
  have hp12 := hp9.2
  have hs9 := (hv.tk t ht).pr.2
  have hn4 : ¬ σ.1 22 t = -4 := by rw [(hv.tk t ht).pr.1]; exact nI_n4 (by have := hv.S; omega)
  have hs := h.sg _ hs9
  refine kk_aload_n (pc := 0) hX dX20_does_0 rfl ?_
  refine kk_getR (pc := 1) hX (x := some (β + 5000 + 20 * t + 7)) fl_X20_13_29 dX20_does_1 hk.k.k0 rfl hk.l.pi ?_
  refine kk_callV (pc := 4) hX (v_ctake X.1 _ _ _ _ h ht hq h1) dX20_does_4 (lw_V q1144 q1075 q1076 q92 q1077) rfl ⟨by decide +kernel, by decide +kernel, by show _ = some (0 : Nat); decide +kernel⟩ ⟨Nat.le_of_ble_eq_true rfl, Nat.le_of_ble_eq_true rfl, Nat.le_of_ble_eq_true rfl, Nat.le_of_ble_eq_true rfl, Nat.le_of_ble_eq_true rfl⟩ (fun q => by cases q) hk.k.k7 jc_31 rfl (fun _ _ I2 _ _ hP => ?_) jj_kno
  obtain ⟨rfl, rfl, rfl, rfl,  h2⟩ := hP
  have hk2 := h2.tk t ht
  refine kk_istore_n (pc := 7) hX dX20_does_7 (by decide) ?_
  refine kk_aload_n (pc := 8) hX dX20_does_8 rfl ?_
  refine kk_getR (pc := 9) hX (x := some (β + 5000 + 20 * t + 7)) fl_X20_13_29 dX20_does_9 hk.k.k0 rfl hk2.l.pi ?_
  refine kk_getR (pc := 12) hX (x := some (β + 5000 + 20 * t + 8)) fl_X20_25_31 dX20_does_12 hk.k.k7 rfl hk2.l.p0 ?_
  refine kk_iload_n (pc := 15) hX dX20_does_15 rfl ?_
  refine kk_lald (pc := 16) hX (nv (σ.1 32 t) - 1) dX20_does_16 hk.k.k8 rfl rfl ⟨by omega, by omega⟩ ?_
  refine kk_topL (cr_nu (σ.1 31 (12 * t + (nv (σ.1 32 t) - 1))) (σ.2 30 (12 * t + (nv (σ.1 32 t) - 1)))) (hk.c.pn _ (by omega)) ?_
  refine kk_lstore (pc := 17) hX dX20_does_17 (by decide) ?_
  refine kk_aload_n (pc := 19) hX dX20_does_19 rfl ?_
  refine kk_getR (pc := 20) hX (x := some (β + 5000 + 20 * t + 7)) fl_X20_13_29 dX20_does_20 hk.k.k0 rfl hk2.l.pi ?_
  refine kk_getR (pc := 23) hX (x := some (β + 5000 + 20 * t + 9)) fl_X20_29_31 dX20_does_23 hk.k.k7 rfl hk2.l.p1 ?_
  refine kk_iload_n (pc := 26) hX dX20_does_26 rfl ?_
  refine kk_aald (pc := 27) hX (x := (cr_hr β (σ.1 31 (12 * t + (nv (σ.1 32 t) - 1))) (σ.2 30 (12 * t + (nv (σ.1 32 t) - 1))))) (nv (σ.1 32 t) - 1) dX20_does_27 hk.k.k9 (by decide) rfl ⟨by omega, by omega⟩ (hk.c.ph _ (by omega)) ?_
  refine kk_astore (pc := 28) hX dX20_does_28 (by decide) ?_
  refine kk_aload_n (pc := 30) hX dX20_does_30 rfl ?_
  refine kk_getR (pc := 31) hX (x := some (β + 5000 + 20 * t + 7)) fl_X20_13_29 dX20_does_31 hk.k.k0 rfl hk2.l.pi ?_
  refine kk_lconst (pc := 34) hX (v := 0) dX20_does_34 (by decide) ?_
  refine kk_aload_n (pc := 35) hX dX20_does_35 rfl ?_
  refine kk_getR (pc := 36) hX (x := some 10) fl_X20_1_20 dX20_does_36 (h.ro.dd 17 (by decide)).k0 rfl (h.ro.dd 17 (by decide)).th ?_
  refine kk_aload_n (pc := 39) hX dX20_does_39 rfl ?_
  refine kk_iload_n (pc := 40) hX dX20_does_40 rfl ?_
  refine kk_lload (pc := 41) hX dX20_does_41 rfl ?_
  refine kk_aload (pc := 43) hX dX20_does_43 rfl ?_
  refine kk_callVN (pc := 45) hX (v_cforkXA X.1 _ _ _ _ h2 ht k ho1 ho2 _ _ q hq7 hq9) dX20_does_45 (lw_meth q1148) (jj_inT q1145 rfl) ⟨q1147, qs14, q50⟩ ⟨by decide +kernel, by decide +kernel, by show _ = some (4 : Nat); decide +kernel⟩ ⟨Nat.le_of_ble_eq_true rfl, Nat.le_of_ble_eq_true rfl, Nat.le_of_ble_eq_true rfl, Nat.le_of_ble_eq_true rfl, Nat.le_of_ble_eq_true rfl⟩ (fun _ => hF rfl) h.ro.k0 jc_0 rfl jj_knp (fun a9 _ _ _ _ hP => ?_)
  exact kk_out (pc := 45) hX hN ⟨Nat.le_refl _, Nat.le_refl _⟩ hP

theorem v_do17B (G : jj_G) (τ : jj_T) (I : jj_I) (L : jj_L) (r : jj_R) {β : Nat} {ss : List Nat} {e N : Nat → Nat} {ρ : jm} {σ : jm} {t : Nat} (h : cr_rel β ss e N ρ (cr_pl (σ.1 14) t (σ.1 14 t + 1)) σ τ I L r) (hv : m_inv σ) (ht : t < nv (σ.1 0 11)) (h0 : σ.1 15 t = 0) (k : Nat) (h1 : 1 ≤ nv (σ.1 32 t)) (hob : k < nv (σ.1 0 0)) (hd : σ.1 19 t = 3) (q : Nat) (hq7 : τ q = none ∧ ¬ (1 ≤ q ∧ q ≤ 6)) (hq9 : β + 10000 ≤ q) : kk_M G yX20_does (ws_ yX20_does cX20_does 7 none) { frames := 9, cells := 1, slots := 7, locals := 219 } [jR (some 37), jR (some (β + 5000 + 20 * t)), jI (nI k)] true τ I L r jj_noP (fun a τ' I' L' r' => a = q ∧ I' q 6 = 4 ∧ cr_rel β ss e N ρ (cr_pl (σ.1 14) t (σ.1 14 t + 1)) (m_s2 t 1 σ) τ' I' L' r') := by
  refine kk_intro "BranchCells$18" (by decide) rfl (Nat.le_of_ble_eq_true rfl) ?_
  intro X hG hX hr hN hC hF hAd
  have hk := h.tk t ht
  have hT := hv.T
  have hp9 := (hv.tk t ht).po.1
  have hq := hp9.1
  have hp12 := hp9.2
  have hs9 := (hv.tk t ht).pr.2
  have hn4 : ¬ σ.1 22 t = -4 := by rw [(hv.tk t ht).pr.1]; exact nI_n4 (by have := hv.S; omega)
  have hs := h.sg _ hs9
  refine kk_aload_n (pc := 0) hX dX20_does_0 rfl ?_
  refine kk_getR (pc := 1) hX (x := some (β + 5000 + 20 * t + 7)) fl_X20_13_29 dX20_does_1 hk.k.k0 rfl hk.l.pi ?_
  refine kk_callV (pc := 4) hX (v_ctake X.1 _ _ _ _ h ht hq h1) dX20_does_4 (lw_V q1144 q1075 q1076 q92 q1077) rfl ⟨by decide +kernel, by decide +kernel, by show _ = some (0 : Nat); decide +kernel⟩ ⟨Nat.le_of_ble_eq_true rfl, Nat.le_of_ble_eq_true rfl, Nat.le_of_ble_eq_true rfl, Nat.le_of_ble_eq_true rfl, Nat.le_of_ble_eq_true rfl⟩ (fun q => by cases q) hk.k.k7 jc_31 rfl (fun _ _ I2 _ _ hP => ?_) jj_kno
  obtain ⟨rfl, rfl, rfl, rfl,  h2⟩ := hP
  have hk2 := h2.tk t ht
  refine kk_istore_n (pc := 7) hX dX20_does_7 (by decide) ?_
  refine kk_aload_n (pc := 8) hX dX20_does_8 rfl ?_
  refine kk_getR (pc := 9) hX (x := some (β + 5000 + 20 * t + 7)) fl_X20_13_29 dX20_does_9 hk.k.k0 rfl hk2.l.pi ?_
  refine kk_getR (pc := 12) hX (x := some (β + 5000 + 20 * t + 8)) fl_X20_25_31 dX20_does_12 hk.k.k7 rfl hk2.l.p0 ?_
  refine kk_iload_n (pc := 15) hX dX20_does_15 rfl ?_
  refine kk_lald (pc := 16) hX (nv (σ.1 32 t) - 1) dX20_does_16 hk.k.k8 rfl rfl ⟨by omega, by omega⟩ ?_
  refine kk_topL (cr_nu (σ.1 31 (12 * t + (nv (σ.1 32 t) - 1))) (σ.2 30 (12 * t + (nv (σ.1 32 t) - 1)))) (hk.c.pn _ (by omega)) ?_
  refine kk_lstore (pc := 17) hX dX20_does_17 (by decide) ?_
  refine kk_aload_n (pc := 19) hX dX20_does_19 rfl ?_
  refine kk_getR (pc := 20) hX (x := some (β + 5000 + 20 * t + 7)) fl_X20_13_29 dX20_does_20 hk.k.k0 rfl hk2.l.pi ?_
  refine kk_getR (pc := 23) hX (x := some (β + 5000 + 20 * t + 9)) fl_X20_29_31 dX20_does_23 hk.k.k7 rfl hk2.l.p1 ?_
  refine kk_iload_n (pc := 26) hX dX20_does_26 rfl ?_
  refine kk_aald (pc := 27) hX (x := (cr_hr β (σ.1 31 (12 * t + (nv (σ.1 32 t) - 1))) (σ.2 30 (12 * t + (nv (σ.1 32 t) - 1))))) (nv (σ.1 32 t) - 1) dX20_does_27 hk.k.k9 (by decide) rfl ⟨by omega, by omega⟩ (hk.c.ph _ (by omega)) ?_
  refine kk_astore (pc := 28) hX dX20_does_28 (by decide) ?_
  refine kk_aload_n (pc := 30) hX dX20_does_30 rfl ?_
  refine kk_getR (pc := 31) hX (x := some (β + 5000 + 20 * t + 7)) fl_X20_13_29 dX20_does_31 hk.k.k0 rfl hk2.l.pi ?_
  refine kk_lconst (pc := 34) hX (v := 0) dX20_does_34 (by decide) ?_
  refine kk_aload_n (pc := 35) hX dX20_does_35 rfl ?_
  refine kk_getR (pc := 36) hX (x := some 10) fl_X20_1_20 dX20_does_36 (h.ro.dd 17 (by decide)).k0 rfl (h.ro.dd 17 (by decide)).th ?_
  refine kk_aload_n (pc := 39) hX dX20_does_39 rfl ?_
  refine kk_iload_n (pc := 40) hX dX20_does_40 rfl ?_
  refine kk_lload (pc := 41) hX dX20_does_41 rfl ?_
  refine kk_aload (pc := 43) hX dX20_does_43 rfl ?_
  refine kk_callVN (pc := 45) hX (v_cforkXB X.1 _ _ _ _ h2 ht k hob hd _ _ q hq7 hq9) dX20_does_45 (lw_meth q1148) (jj_inT q1145 rfl) ⟨q1147, qs14, q50⟩ ⟨by decide +kernel, by decide +kernel, by show _ = some (4 : Nat); decide +kernel⟩ ⟨Nat.le_of_ble_eq_true rfl, Nat.le_of_ble_eq_true rfl, Nat.le_of_ble_eq_true rfl, Nat.le_of_ble_eq_true rfl, Nat.le_of_ble_eq_true rfl⟩ (fun _ => hF rfl) h.ro.k0 jc_0 rfl jj_knp (fun a9 _ _ _ _ hP => ?_)
  exact kk_out (pc := 45) hX hN ⟨Nat.le_refl _, Nat.le_refl _⟩ hP

theorem v_do17C (G : jj_G) (τ : jj_T) (I : jj_I) (L : jj_L) (r : jj_R) {β : Nat} {ss : List Nat} {e N : Nat → Nat} {ρ : jm} {σ : jm} {t : Nat} (h : cr_rel β ss e N ρ (cr_pl (σ.1 14) t (σ.1 14 t + 1)) σ τ I L r) (hv : m_inv σ) (ht : t < nv (σ.1 0 11)) (h0 : σ.1 15 t = 0) (k : Nat) (h1 : 1 ≤ nv (σ.1 32 t)) (hob : k < nv (σ.1 0 0)) (hd : ¬ σ.1 19 t = 3) (hf : σ.1 18 t = 3) (q : Nat) (hq7 : τ q = none ∧ ¬ (1 ≤ q ∧ q ≤ 6)) (hq9 : β + 10000 ≤ q) : kk_M G yX20_does (ws_ yX20_does cX20_does 7 none) { frames := 9, cells := 1, slots := 7, locals := 219 } [jR (some 37), jR (some (β + 5000 + 20 * t)), jI (nI k)] true τ I L r jj_noP (fun a τ' I' L' r' => a = q ∧ I' q 6 = 5 ∧ cr_rel β ss e N ρ (cr_pl (σ.1 14) t (σ.1 14 t + 1)) (m_s2 t 1 σ) τ' I' L' r') := by
  refine kk_intro "BranchCells$18" (by decide) rfl (Nat.le_of_ble_eq_true rfl) ?_
  intro X hG hX hr hN hC hF hAd
  have hk := h.tk t ht
  have hT := hv.T
  have hp9 := (hv.tk t ht).po.1
  have hq := hp9.1
  have hp12 := hp9.2
  have hs9 := (hv.tk t ht).pr.2
  have hn4 : ¬ σ.1 22 t = -4 := by rw [(hv.tk t ht).pr.1]; exact nI_n4 (by have := hv.S; omega)
  have hs := h.sg _ hs9
  refine kk_aload_n (pc := 0) hX dX20_does_0 rfl ?_
  refine kk_getR (pc := 1) hX (x := some (β + 5000 + 20 * t + 7)) fl_X20_13_29 dX20_does_1 hk.k.k0 rfl hk.l.pi ?_
  refine kk_callV (pc := 4) hX (v_ctake X.1 _ _ _ _ h ht hq h1) dX20_does_4 (lw_V q1144 q1075 q1076 q92 q1077) rfl ⟨by decide +kernel, by decide +kernel, by show _ = some (0 : Nat); decide +kernel⟩ ⟨Nat.le_of_ble_eq_true rfl, Nat.le_of_ble_eq_true rfl, Nat.le_of_ble_eq_true rfl, Nat.le_of_ble_eq_true rfl, Nat.le_of_ble_eq_true rfl⟩ (fun q => by cases q) hk.k.k7 jc_31 rfl (fun _ _ I2 _ _ hP => ?_) jj_kno
  obtain ⟨rfl, rfl, rfl, rfl,  h2⟩ := hP
  have hk2 := h2.tk t ht
  refine kk_istore_n (pc := 7) hX dX20_does_7 (by decide) ?_
  refine kk_aload_n (pc := 8) hX dX20_does_8 rfl ?_
  refine kk_getR (pc := 9) hX (x := some (β + 5000 + 20 * t + 7)) fl_X20_13_29 dX20_does_9 hk.k.k0 rfl hk2.l.pi ?_
  refine kk_getR (pc := 12) hX (x := some (β + 5000 + 20 * t + 8)) fl_X20_25_31 dX20_does_12 hk.k.k7 rfl hk2.l.p0 ?_
  refine kk_iload_n (pc := 15) hX dX20_does_15 rfl ?_
  refine kk_lald (pc := 16) hX (nv (σ.1 32 t) - 1) dX20_does_16 hk.k.k8 rfl rfl ⟨by omega, by omega⟩ ?_
  refine kk_topL (cr_nu (σ.1 31 (12 * t + (nv (σ.1 32 t) - 1))) (σ.2 30 (12 * t + (nv (σ.1 32 t) - 1)))) (hk.c.pn _ (by omega)) ?_
  refine kk_lstore (pc := 17) hX dX20_does_17 (by decide) ?_
  refine kk_aload_n (pc := 19) hX dX20_does_19 rfl ?_
  refine kk_getR (pc := 20) hX (x := some (β + 5000 + 20 * t + 7)) fl_X20_13_29 dX20_does_20 hk.k.k0 rfl hk2.l.pi ?_
  refine kk_getR (pc := 23) hX (x := some (β + 5000 + 20 * t + 9)) fl_X20_29_31 dX20_does_23 hk.k.k7 rfl hk2.l.p1 ?_
  refine kk_iload_n (pc := 26) hX dX20_does_26 rfl ?_
  refine kk_aald (pc := 27) hX (x := (cr_hr β (σ.1 31 (12 * t + (nv (σ.1 32 t) - 1))) (σ.2 30 (12 * t + (nv (σ.1 32 t) - 1))))) (nv (σ.1 32 t) - 1) dX20_does_27 hk.k.k9 (by decide) rfl ⟨by omega, by omega⟩ (hk.c.ph _ (by omega)) ?_
  refine kk_astore (pc := 28) hX dX20_does_28 (by decide) ?_
  refine kk_aload_n (pc := 30) hX dX20_does_30 rfl ?_
  refine kk_getR (pc := 31) hX (x := some (β + 5000 + 20 * t + 7)) fl_X20_13_29 dX20_does_31 hk.k.k0 rfl hk2.l.pi ?_
  refine kk_lconst (pc := 34) hX (v := 0) dX20_does_34 (by decide) ?_
  refine kk_aload_n (pc := 35) hX dX20_does_35 rfl ?_
  refine kk_getR (pc := 36) hX (x := some 10) fl_X20_1_20 dX20_does_36 (h.ro.dd 17 (by decide)).k0 rfl (h.ro.dd 17 (by decide)).th ?_
  refine kk_aload_n (pc := 39) hX dX20_does_39 rfl ?_
  refine kk_iload_n (pc := 40) hX dX20_does_40 rfl ?_
  refine kk_lload (pc := 41) hX dX20_does_41 rfl ?_
  refine kk_aload (pc := 43) hX dX20_does_43 rfl ?_
  refine kk_callVN (pc := 45) hX (v_cforkXC X.1 _ _ _ _ h2 ht k hob hd hf _ _ q hq7 hq9) dX20_does_45 (lw_meth q1148) (jj_inT q1145 rfl) ⟨q1147, qs14, q50⟩ ⟨by decide +kernel, by decide +kernel, by show _ = some (4 : Nat); decide +kernel⟩ ⟨Nat.le_of_ble_eq_true rfl, Nat.le_of_ble_eq_true rfl, Nat.le_of_ble_eq_true rfl, Nat.le_of_ble_eq_true rfl, Nat.le_of_ble_eq_true rfl⟩ (fun _ => hF rfl) h.ro.k0 jc_0 rfl jj_knp (fun a9 _ _ _ _ hP => ?_)
  exact kk_out (pc := 45) hX hN ⟨Nat.le_refl _, Nat.le_refl _⟩ hP

theorem v_do17 (G : jj_G) (τ : jj_T) (I : jj_I) (L : jj_L) (r : jj_R) {β : Nat} {ss : List Nat} {e N : Nat → Nat} {ρ : jm} {σ : jm} {t : Nat} (h : cr_rel β ss e N ρ (cr_pl (σ.1 14) t (σ.1 14 t + 1)) σ τ I L r) (hv : m_inv σ) (ht : t < nv (σ.1 0 11)) (h0 : σ.1 15 t = 0) (k : Nat) (h1 : 1 ≤ nv (σ.1 32 t)) (hob : k < nv (σ.1 0 0)) (hd : ¬ σ.1 19 t = 3) (hf : ¬ σ.1 18 t = 3) (h40 : nv (σ.1 0 11) + 1 ≤ 40) (h00 : τ 0 = some (.inr (3, 0))) (q q2 q3 : Nat) (hq7 : τ q = none ∧ ¬ (1 ≤ q ∧ q ≤ 6)) (hq27 : τ q2 = none ∧ ¬ (1 ≤ q2 ∧ q2 ≤ 6)) (hq37 : τ q3 = none ∧ ¬ (1 ≤ q3 ∧ q3 ≤ 6)) (hq9 : β + 10000 ≤ q) (hq29 : β + 10000 ≤ q2) (hq39 : β + 10000 ≤ q3) (hqq : q < q2 ∧ q2 < q3) : kk_M G yX20_does (ws_ yX20_does cX20_does 7 none) { frames := 9, cells := 18, slots := 947, locals := 219 } [jR (some 37), jR (some (β + 5000 + 20 * t)), jI (nI k)] true τ I L r (fun v' τ' I' L' r' => v' = none ∧ ∃ ss' e' N', cr_rel β ss' e' N' ρ (cr_pl (cr_pl (σ.1 14) t (σ.1 14 t + 1)) (nv (σ.1 0 11)) 0) (m_fork t (nI k) (σ.2 30 (12 * t + (nv (σ.1 32 t) - 1))) (σ.1 31 (12 * t + (nv (σ.1 32 t) - 1))) (m_s2 t 1 σ)) τ' I' L' r') jj_no := by
  refine kk_intro "BranchCells$18" (by decide) rfl (Nat.le_of_ble_eq_true rfl) ?_
  intro X hG hX hr hN hC hF hAd
  have hk := h.tk t ht
  have hT := hv.T
  have hp9 := (hv.tk t ht).po.1
  have hq := hp9.1
  have hp12 := hp9.2
  have hs9 := (hv.tk t ht).pr.2
  have hn4 : ¬ σ.1 22 t = -4 := by rw [(hv.tk t ht).pr.1]; exact nI_n4 (by have := hv.S; omega)
  have hs := h.sg _ hs9
  refine kk_aload_n (pc := 0) hX dX20_does_0 rfl ?_
  refine kk_getR (pc := 1) hX (x := some (β + 5000 + 20 * t + 7)) fl_X20_13_29 dX20_does_1 hk.k.k0 rfl hk.l.pi ?_
  refine kk_callV (pc := 4) hX (v_ctake X.1 _ _ _ _ h ht hq h1) dX20_does_4 (lw_V q1144 q1075 q1076 q92 q1077) rfl ⟨by decide +kernel, by decide +kernel, by show _ = some (0 : Nat); decide +kernel⟩ ⟨Nat.le_of_ble_eq_true rfl, Nat.le_of_ble_eq_true rfl, Nat.le_of_ble_eq_true rfl, Nat.le_of_ble_eq_true rfl, Nat.le_of_ble_eq_true rfl⟩ (fun q => by cases q) hk.k.k7 jc_31 rfl (fun _ _ I2 _ _ hP => ?_) jj_kno
  obtain ⟨rfl, rfl, rfl, rfl,  h2⟩ := hP
  have hk2 := h2.tk t ht
  refine kk_istore_n (pc := 7) hX dX20_does_7 (by decide) ?_
  refine kk_aload_n (pc := 8) hX dX20_does_8 rfl ?_
  refine kk_getR (pc := 9) hX (x := some (β + 5000 + 20 * t + 7)) fl_X20_13_29 dX20_does_9 hk.k.k0 rfl hk2.l.pi ?_
  refine kk_getR (pc := 12) hX (x := some (β + 5000 + 20 * t + 8)) fl_X20_25_31 dX20_does_12 hk.k.k7 rfl hk2.l.p0 ?_
  refine kk_iload_n (pc := 15) hX dX20_does_15 rfl ?_
  refine kk_lald (pc := 16) hX (nv (σ.1 32 t) - 1) dX20_does_16 hk.k.k8 rfl rfl ⟨by omega, by omega⟩ ?_
  refine kk_topL (cr_nu (σ.1 31 (12 * t + (nv (σ.1 32 t) - 1))) (σ.2 30 (12 * t + (nv (σ.1 32 t) - 1)))) (hk.c.pn _ (by omega)) ?_
  refine kk_lstore (pc := 17) hX dX20_does_17 (by decide) ?_
  refine kk_aload_n (pc := 19) hX dX20_does_19 rfl ?_
  refine kk_getR (pc := 20) hX (x := some (β + 5000 + 20 * t + 7)) fl_X20_13_29 dX20_does_20 hk.k.k0 rfl hk2.l.pi ?_
  refine kk_getR (pc := 23) hX (x := some (β + 5000 + 20 * t + 9)) fl_X20_29_31 dX20_does_23 hk.k.k7 rfl hk2.l.p1 ?_
  refine kk_iload_n (pc := 26) hX dX20_does_26 rfl ?_
  refine kk_aald (pc := 27) hX (x := (cr_hr β (σ.1 31 (12 * t + (nv (σ.1 32 t) - 1))) (σ.2 30 (12 * t + (nv (σ.1 32 t) - 1))))) (nv (σ.1 32 t) - 1) dX20_does_27 hk.k.k9 (by decide) rfl ⟨by omega, by omega⟩ (hk.c.ph _ (by omega)) ?_
  refine kk_astore (pc := 28) hX dX20_does_28 (by decide) ?_
  refine kk_aload_n (pc := 30) hX dX20_does_30 rfl ?_
  refine kk_getR (pc := 31) hX (x := some (β + 5000 + 20 * t + 7)) fl_X20_13_29 dX20_does_31 hk.k.k0 rfl hk2.l.pi ?_
  refine kk_lconst (pc := 34) hX (v := 0) dX20_does_34 (by decide) ?_
  refine kk_aload_n (pc := 35) hX dX20_does_35 rfl ?_
  refine kk_getR (pc := 36) hX (x := some 10) fl_X20_1_20 dX20_does_36 (h.ro.dd 17 (by decide)).k0 rfl (h.ro.dd 17 (by decide)).th ?_
  refine kk_aload_n (pc := 39) hX dX20_does_39 rfl ?_
  refine kk_iload_n (pc := 40) hX dX20_does_40 rfl ?_
  refine kk_lload (pc := 41) hX dX20_does_41 rfl ?_
  refine kk_aload (pc := 43) hX dX20_does_43 rfl ?_
  refine kk_callVN (pc := 45) hX (v_cfork X.1 _ _ _ _ h2 ht k hob hd hf (Or.inr (h.ss.pr t ht (by rw [h0]; decide))) (show nv (σ.1 0 36) + 2 ≤ 79 by have := hv.ts.2.2.1; omega) h40 hv.ts.2.1 hv.ts.1 (hv.cm k (by have := hv.bl.2; omega)) h00 (σ.2 30 (12 * t + (nv (σ.1 32 t) - 1))) (σ.1 31 (12 * t + (nv (σ.1 32 t) - 1))) _ _ rfl rfl (hr_o hT ((hv.tk t ht).ph _ (by omega))) q q2 q3 hq7 hq27 hq37 hq9 hq29 hq39 hqq) dX20_does_45 (lw_meth q1148) (jj_inT q1145 rfl) ⟨q1147, qs14, q50⟩ ⟨by decide +kernel, by decide +kernel, by show _ = some (4 : Nat); decide +kernel⟩ ⟨Nat.le_of_ble_eq_true rfl, Nat.le_of_ble_eq_true rfl, Nat.le_of_ble_eq_true rfl, Nat.le_of_ble_eq_true rfl, Nat.le_of_ble_eq_true rfl⟩ (fun _ => hF rfl) h.ro.k0 jc_0 rfl (fun _ τ4 I4 L4 r4 hP => ?_) jj_kno
  obtain ⟨rfl, hk4, ss4, e4, N4, h4⟩ := hP
  have ht4 : t < nv ((m_nt (nI k) (nI t) (σ.2 30 (12 * t + (nv (σ.1 32 t) - 1))) (σ.1 31 (12 * t + (nv (σ.1 32 t) - 1))) ((m_s2 t 1 σ).1 0 36 + 1) ((m_s2 t 1 σ).1 22 t) (m_ns ((m_s2 t 1 σ).1 22 t) (m_f1 t (m_s2 t 1 σ)))).1 0 11) := by
    rw [fk_11]
    show t < nv (σ.1 0 11 + 1)
    rw [sz_un hv.ts.1 (by omega)]
    omega
  have hkk := h4.tk t ht4
  have q32 := fk_32 (ob := nI k) (fr := nI t) (v := (σ.2 30 (12 * t + (nv (σ.1 32 t) - 1)))) (g := (σ.1 31 (12 * t + (nv (σ.1 32 t) - 1)))) (on := (m_s2 t 1 σ).1 0 36 + 1) (ab := (m_s2 t 1 σ).1 22 t) (b := (m_s2 t 1 σ).1 22 t) (σ := m_s2 t 1 σ) (t := t) ht
  have qs := s2_v1 hq h1 hp12
  refine kk_callV (pc := 48) hX (v_cput X.1 _ _ _ _ h4 ht4 (by rw [q32]; exact qs.2) (σ.1 0 11).toInt64 1 0 (some (β + 5000 + 20 * nv (σ.1 0 11))) (if_neg (by decide)).symm (by unfold cr_hr; rw [if_neg (by decide), in_c]) (by rw [q32, qs.1]; omega) (fun w hw => by cases hw; exact hk4)) dX20_does_48 (lw_V q1149 q1062 q1063 q92 q1064) rfl ⟨by decide +kernel, by decide +kernel, by show _ = some (2 : Nat); decide +kernel⟩ ⟨Nat.le_of_ble_eq_true rfl, Nat.le_of_ble_eq_true rfl, Nat.le_of_ble_eq_true rfl, Nat.le_of_ble_eq_true rfl, Nat.le_of_ble_eq_true rfl⟩ (fun q => by cases q) hkk.k.k7 jc_31 rfl (fun _ _ I5 L5 r5 hP => ?_) jj_kno
  obtain ⟨rfl, rfl, h5⟩ := hP
  exact kk_vret (pc := 51) hX dX20_does_51 hr ⟨Nat.le_refl _, Nat.le_refl _⟩ (⟨rfl, _, _, _, h5⟩)
