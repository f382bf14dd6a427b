set_option maxRecDepth 100000
theorem v_cbeginS (G : jj_G) (τ : jj_T) (I : jj_I) (L : jj_L) (r : jj_R) {β : Nat} {ss : List Nat} {e N : Nat → Nat} {ρ : jm} {pl : Nat → Int32} {σ : jm} (h : cr_rel β ss e N ρ pl σ τ I L r) (ob : Nat) (hob : ob < nv (σ.1 0 0)) (f : Nat) (hf : f < nv (σ.1 0 11)) (od : Int32) (hod : od = σ.1 18 f) (on ab : Int32) (onr abr : Option Nat) (honr : onr = cr_sr β on) (habr : abr = cr_sr β ab) (hon : nv on ∈ ss) (hab : cr_in ss ab) (v : Int64) (g : Int32) (y : Int64) (x : Option Nat) (hy : y = cr_nu g v) (hx : x = cr_hr β g v) (hx9 : ∀ w, x = some w → τ w = some (.inl 29) ∧ w < (β + 5000 + 20 * nv (σ.1 0 11))) (hcm : jb (σ.1 2 ob) 40) (h40 : nv (σ.1 0 11) + 1 ≤ 40) (hn11 : σ.1 0 11 = nI (nv (σ.1 0 11))) (h00 : τ 0 = some (.inr (3, 0))) (q : Nat) (hq : τ q = none ∧ ¬ (1 ≤ q ∧ q ≤ 6)) (hq9 : β + 10000 ≤ q) : kk_M G yX0_begins (ws_ yX0_begins cX0_begins 10 (some (.object "BranchCells$Task"))) { frames := 7, cells := 12, slots := 385, locals := 164 } [jR (some 10), jR (some (β + 5000 + 20 * f)), jI od, jI (nI ob), jR onr, jR abr, jL y, jR x] true τ I L r (fun v' τ' I' L' r' => v' = some (jR (some (β + 5000 + 20 * nv (σ.1 0 11)))) ∧ (∀ x, x ≠ q → ¬ (β + 5000 + 20 * nv (σ.1 0 11) ≤ x ∧ x < β + 5000 + 20 * nv (σ.1 0 11) + 11) → τ' x = τ x) ∧ τ' (β + 5000 + 20 * nv (σ.1 0 11)) = some (.inl 29) ∧ ∃ e' N', cr_rel β ss e' N' ρ (cr_pl pl (nv (σ.1 0 11)) 0) (m_nt (nI ob) (nI f) v g on ab σ) τ' I' L' r') jj_no := by
  refine kk_intro "BranchCells" (by decide) rfl (Nat.le_of_ble_eq_true rfl) ?_
  intro X hG hX hr hN hC hF hAd
  have h9 := h.bd
  have hbe := h.e.be
  have ho15 := h.e.ou 15 (by decide) (by decide)
  have hlo15 := h.e.lo 15 (by decide) (by decide)
  have ho13 := h.e.ou 13 (by decide) (by decide)
  have hlo13 := h.e.lo 13 (by decide) (by decide)
  have hne := h.ne hq.1
  have hn15 := hne 15 (by decide) (by decide)
  have hle := h.lb.le
  have hlt := h.lb.lt
  have fT : τ (β + 5000 + 20 * nv (σ.1 0 11)) = none ∧ ¬ (1 ≤ (β + 5000 + 20 * nv (σ.1 0 11)) ∧ (β + 5000 + 20 * nv (σ.1 0 11)) ≤ 6) := ⟨h.fr.t _ (Nat.le_refl _) (by omega) 0 (by decide), by omega⟩
  have hbb := h.bl ob hob
  refine kk_new (pc := 0) hX (β + 5000 + 20 * nv (σ.1 0 11)) ⟨fT.1, fT.2⟩ (hF rfl) dX0_begins_0 jc_29 q766 q767 q88 (by decide) ⟨Nat.le_of_ble_eq_true rfl, Nat.le_of_ble_eq_true rfl⟩ ?_
  refine kk_dup (pc := 3) hX dX0_begins_3 rfl ?_
  refine kk_aload_n (pc := 4) hX dX0_begins_4 rfl ?_
  refine kk_getR (pc := 5) hX (x := some 15) fl_X0_110_0 dX0_begins_5 (Eq.trans (jj_tn (by omega)) h.ro.k0) rfl (Eq.trans (congrFun (jj_zn (by omega)) _) h.ro.l5) ?_
  refine kk_callF (pc := 8) hX (v_size X.1 _ _ _ _ 15 (Eq.trans (jj_tn (by omega)) h.lt.k0)) dX0_begins_8 (lw_app (jj_wf q473 q477 q479 q53) (lw_meth q481)) (by decide +kernel) ⟨by decide +kernel, by decide +kernel, by show _ = some (0 : Nat); decide +kernel⟩ ⟨Nat.le_of_ble_eq_true rfl, Nat.le_of_ble_eq_true rfl, Nat.le_of_ble_eq_true rfl, Nat.le_of_ble_eq_true rfl, Nat.le_of_ble_eq_true rfl⟩ (fun q => by cases q) (Eq.trans (jj_tn (by omega)) h.lt.k0) jc_33 rfl (jj_keq ?_) jj_kno
  refine kk_top (nI (nv (σ.1 0 11))) (Eq.trans (congrFun (jj_zn (by omega)) 2) h.lt.sz) ?_
  refine kk_aload_n (pc := 13) hX dX0_begins_13 rfl ?_
  refine kk_iload_n (pc := 14) hX dX0_begins_14 rfl ?_
  refine kk_iload_n (pc := 15) hX dX0_begins_15 rfl ?_
  refine kk_aload_n (pc := 16) hX dX0_begins_16 rfl ?_
  refine kk_getR (pc := 17) hX (x := some 13) fl_X0_99_0 dX0_begins_17 (Eq.trans (jj_tn (by omega)) h.ro.k0) rfl (Eq.trans (congrFun (jj_zn (by omega)) _) h.ro.l1) ?_
  refine kk_iload_n (pc := 20) hX dX0_begins_20 rfl ?_
  refine kk_callF (pc := 21) hX (v_get X.1 _ _ _ _ 13 ob (Eq.trans (jj_tn (by omega)) h.lb.k0) (nv (σ.1 0 0)) (Eq.trans (congrFun (jj_zn (by omega)) 2) h.lb.sz) hob (e 13) (N 13) (some (100 + 10 * ob)) (Eq.trans (congrFun (jj_zn (by omega)) 1) h.lb.l1) (Eq.trans (jj_tn (by omega)) h.lb.ke) (by omega) hle (by omega) (Eq.trans (congrFun (jj_zn (by omega)) ob) (h.lb.el ob hob))) dX0_begins_21 (lw_app (jj_wf q603 q606 q608 q53) (lw_meth q610)) (by decide +kernel) ⟨by decide +kernel, by decide +kernel, by show _ = some (1 : Nat); decide +kernel⟩ ⟨Nat.le_of_ble_eq_true rfl, Nat.le_of_ble_eq_true rfl, Nat.le_of_ble_eq_true rfl, Nat.le_of_ble_eq_true rfl, Nat.le_of_ble_eq_true rfl⟩ (fun q => by cases q) (Eq.trans (jj_tn (by omega)) h.lb.k0) jc_33 rfl (jj_keq ?_) jj_kno
  refine kk_cast (pc := 26) hX dX0_begins_26 jc_26 (Eq.trans (jj_tn (by omega)) hbb.k0) q482 ?_
  refine kk_aload (pc := 29) hX dX0_begins_29 rfl ?_
  refine kk_aload (pc := 31) hX dX0_begins_31 rfl ?_
  refine kk_callI (pc := 33) hX (v_cTinitS X.1 _ _ _ _ (β + 5000 + 20 * nv (σ.1 0 11)) jj_ts (by omega) (fun i h1 h2 => (jj_tn (by omega)).trans (h.fr.t _ (Nat.le_refl _) (by omega) i (by omega))) (fun j => jj_zs) (β + 5000 + 20 * f) (Eq.trans (jj_tn (by omega)) (h.tk f hf).k.k0) (by omega) (σ.1 19 f) (Eq.trans (congrFun (jj_zn (by omega)) 3) (h.tk f hf).f.de) (nI (nv (σ.1 0 11))) od (nI ob) (some (100 + 10 * ob)) onr abr) dX0_begins_33 (lw_meth q770) ⟨q768, q769, q88, rfl⟩ ⟨by decide +kernel, by decide +kernel, by show _ = some (7 : Nat); decide +kernel⟩ ⟨Nat.le_of_ble_eq_true rfl, Nat.le_of_ble_eq_true rfl, Nat.le_of_ble_eq_true rfl, Nat.le_of_ble_eq_true rfl, Nat.le_of_ble_eq_true rfl⟩ (fun _ => hF rfl) rfl (fun _ τ3 I3 L3 r3 hP => ?_) jj_kno
  obtain ⟨rfl, hτ3, hm3, hn⟩ := hP
  refine kk_astore (pc := 36) hX dX0_begins_36 (by decide) ?_
  refine kk_aload (pc := 38) hX dX0_begins_38 rfl ?_
  refine kk_getR (pc := 40) hX (x := some (β + 5000 + 20 * nv (σ.1 0 11) + 4)) fl_X0_158_29 dX0_begins_40 hn.k.k0 rfl hn.l.sl ?_
  refine kk_iconst (pc := 43) hX (v := 0) dX0_begins_43 (by decide) ?_
  refine kk_lload (pc := 44) hX dX0_begins_44 rfl ?_
  refine kk_aload (pc := 46) hX dX0_begins_46 rfl ?_
  refine kk_callV (pc := 48) hX (v_Vput30 X.1 _ _ _ _ (β + 5000 + 20 * nv (σ.1 0 11) + 4) (β + 5000 + 20 * nv (σ.1 0 11) + 5) (β + 5000 + 20 * nv (σ.1 0 11) + 6) 8 hn.k.k4 hn.l.s0 hn.l.s1 hn.k.k5 hn.k.k6 (by decide) 0 y x (by decide) (fun w hw => (hτ3 w (by have := (hx9 w hw).2; omega)).trans ((jj_tn (by have := (hx9 w hw).2; omega)).trans (hx9 w hw).1))) dX0_begins_48 (lw_V q911 q912 q913 q91 q916) rfl ⟨by decide +kernel, by decide +kernel, by show _ = some (3 : Nat); decide +kernel⟩ ⟨Nat.le_of_ble_eq_true rfl, Nat.le_of_ble_eq_true rfl, Nat.le_of_ble_eq_true rfl, Nat.le_of_ble_eq_true rfl, Nat.le_of_ble_eq_true rfl⟩ (fun q => by cases q) hn.k.k4 jc_30 rfl (jj_keq ?_) jj_kno
  refine kk_aload_n (pc := 51) hX dX0_begins_51 rfl ?_
  refine kk_getR (pc := 52) hX (x := some 15) fl_X0_110_0 dX0_begins_52 ((hτ3 10 (by omega)).trans ((jj_tn (by omega)).trans h.ro.k0)) rfl (Eq.trans (jj_un (Or.inl (by omega))) ((congrFun (hm3 10 (by omega)).2.2 5).trans ((congrFun (jj_zn (by omega)) 5).trans h.ro.l5))) ?_
  refine kk_aload (pc := 55) hX dX0_begins_55 rfl ?_
  have hl2 : cr_lst 15 (e 15) (N 15) (nv (σ.1 0 11)) (fun t => β + 5000 + 20 * t) τ3 I3 (jj_u r3 (β + 5000 + 20 * nv (σ.1 0 11) + 6) 0 x) := h.lt.cg ((hτ3 15 (by omega)).trans (jj_tn (by omega))) (congrFun ((hm3 15 (by omega)).1.trans (jj_zn (by omega))) 2) ((jj_ua (by omega)).trans ((hm3 15 (by omega)).2.2.trans (jj_zn (by omega)))) ((hτ3 _ (by omega)).trans (jj_tn (by omega))) ((jj_ua (by omega)).trans ((hm3 _ (by omega)).2.2.trans (jj_zn (by omega))))
  have hel : ∀ i, i < nv (σ.1 0 11) → τ3 (β + 5000 + 20 * i) = some (.inl 29) := fun i hi => (hτ3 _ (by omega)).trans ((jj_tn (by omega)).trans (h.tk i hi).k.k0)
  refine kk_callF (pc := 57) hX (v_ladd X.1 _ _ _ _ hl2 (β + 5000 + 20 * nv (σ.1 0 11)) hn.k.k0 jc_29 (jj_inT q1808 rfl) hel ((hτ3 0 (by omega)).trans ((jj_tn (by omega)).trans h00)) (by omega) q ⟨(hτ3 q (by omega)).trans ((jj_tn (by omega)).trans hq.1), hq.2⟩) dX0_begins_57 (lw_app (jj_wf q503 q506 q508 q53) (lw_meth q510)) (by decide +kernel) ⟨by decide +kernel, by decide +kernel, by show _ = some (1 : Nat); decide +kernel⟩ ⟨Nat.le_of_ble_eq_true rfl, Nat.le_of_ble_eq_true rfl, Nat.le_of_ble_eq_true rfl, Nat.le_of_ble_eq_true rfl, Nat.le_of_ble_eq_true rfl⟩ (fun _ => hF rfl) ((hτ3 15 (by omega)).trans ((jj_tn (by omega)).trans h.lt.k0)) jc_33 rfl (fun _ τ4 I4 L4 r4 hP => ?_) jj_kno
  obtain ⟨rfl, e4, N4, hl4, he4, hth4, hτ4, hI4, hL4, hr4⟩ := hP
  refine kk_pop (pc := 62) hX dX0_begins_62 rfl ?_
  refine kk_aload (pc := 63) hX dX0_begins_63 rfl ?_
  have q11 : nv ((m_tn (nI ob) (nI f) v g on ab σ).1 0 11) = nv (σ.1 0 11) + 1 := by rw [m_tn_0, sz_un hn11 (by omega)]
  have q13 : nv ((m_tn (nI ob) (nI f) v g on ab σ).1 13 (nv (σ.1 0 11))) = ob := by rw [m_tn_13, nv_nI (by omega)]
  have rT : ∀ i, i < 11 → i ≠ 6 → r4 ((β + 5000 + 20 * nv (σ.1 0 11)) + i) = r3 ((β + 5000 + 20 * nv (σ.1 0 11)) + i) := fun i h1 h2 => (hr4 _ (by omega) (by omega) (by omega)).trans (jj_ua (by omega))
  have IT : ∀ i, i < 11 → I4 ((β + 5000 + 20 * nv (σ.1 0 11)) + i) = I3 ((β + 5000 + 20 * nv (σ.1 0 11)) + i) := fun i h1 => hI4 _ (by omega) (by omega)
  have LT : ∀ i, i < 11 → i ≠ 5 → L4 ((β + 5000 + 20 * nv (σ.1 0 11)) + i) = L3 ((β + 5000 + 20 * nv (σ.1 0 11)) + i) := fun i h1 h2 => (hL4 _ (by omega)).trans (jj_ua (by omega))
  have hnf : ¬ nI f = -4 := nI_n4 (by omega)
  have hnv : nv (nI f) = f := nv_nI (by omega)
  have hT : cr_tsk β (m_tn (nI ob) (nI f) v g on ab σ) (cr_pl pl (nv (σ.1 0 11)) 0) (nv (σ.1 0 11)) (β + 5000 + 20 * nv (σ.1 0 11)) τ4 I4 L4 r4 := by
    refine ⟨⟨(hτ4 _ (by omega)).trans hn.k.k0, (hτ4 _ (by omega)).trans hn.k.k1, (hτ4 _ (by omega)).trans hn.k.k2, (hτ4 _ (by omega)).trans hn.k.k3, (hτ4 _ (by omega)).trans hn.k.k4, (hτ4 _ (by omega)).trans hn.k.k5, (hτ4 _ (by omega)).trans hn.k.k6, (hτ4 _ (by omega)).trans hn.k.k7, (hτ4 _ (by omega)).trans hn.k.k8, (hτ4 _ (by omega)).trans hn.k.k9, (hτ4 _ (by omega)).trans hn.k.k10⟩, ⟨(congrFun (rT 0 (by decide) (by decide)) 12).trans hn.l.re, (congrFun (rT 0 (by decide) (by decide)) 14).trans hn.l.sl, (congrFun (rT 0 (by decide) (by decide)) 15).trans hn.l.pi, (congrFun (rT 0 (by decide) (by decide)) 16).trans hn.l.ou, (congrFun (rT 1 (by decide) (by decide)) 0).trans hn.l.r0, (congrFun (rT 1 (by decide) (by decide)) 1).trans hn.l.r1, (congrFun (rT 4 (by decide) (by decide)) 0).trans hn.l.s0, (congrFun (rT 4 (by decide) (by decide)) 1).trans hn.l.s1, (congrFun (rT 7 (by decide) (by decide)) 0).trans hn.l.p0, (congrFun (rT 7 (by decide) (by decide)) 1).trans hn.l.p1⟩, ⟨(congrFun (IT 0 (by decide)) 0).trans hn.nu, (congrFun (rT 0 (by decide) (by decide)) 1).trans (hn.pa.trans (by rw [m_tn_20]; unfold cr_tr; rw [if_neg hnf, hnv])), (congrFun (IT 0 (by decide)) 2).trans (hn.od.trans (by rw [m_tn_21, if_neg hnf, hnv]; exact hod)), (congrFun (IT 0 (by decide)) 3).trans (hn.de.trans (by rw [m_tn_19, if_neg hnf, hnv])), (congrFun (IT 0 (by decide)) 4).trans (hn.bn.trans m_tn_13.symm), (congrFun (rT 0 (by decide) (by decide)) 5).trans (hn.bl.trans (by rw [q13])), (congrFun (rT 0 (by decide) (by decide)) 19).trans (hn.ro.trans (habr.trans (congrArg (cr_sr β) m_tn_23.symm)))⟩, ⟨(congrFun (IT 0 (by decide)) 6).trans (hn.i6.trans (if_pos rfl).symm), (congrFun (IT 0 (by decide)) 7).trans (hn.i7.trans m_tn_17.symm), (congrFun (IT 0 (by decide)) 8).trans (hn.i8.trans m_tn_18.symm), (congrFun (IT 0 (by decide)) 9).trans (hn.i9.trans m_tn_16.symm), cr_st.cg m_tn_15 ((congrFun (rT 0 (by decide) (by decide)) 10).trans hn.st) ((congrFun (IT 0 (by decide)) 11).trans hn.i11) (Or.inl ⟨rfl, rfl, rfl⟩), (congrFun (LT 0 (by decide) (by decide)) 13).trans (hn.mk.trans m_tn_24.symm), (congrFun (IT 0 (by decide)) 17).trans (hn.i17.trans m_tn_34.symm), (congrFun (rT 0 (by decide) (by decide)) 18).trans (hn.pr.trans (honr.trans (congrArg (cr_sr β) m_tn_22.symm))), (congrFun (IT 7 (by decide)) 2).trans (hn.ps.trans m_tn_32.symm)⟩, ?_⟩
    refine ⟨(congrFun (LT 2 (by decide) (by decide)) 0).trans (hn.rn.trans (by rw [m_tn_27, m_tn_26]; rfl)), (congrFun (rT 3 (by decide) (by decide)) 0).trans (hn.rh.trans (by rw [m_tn_27, m_tn_26]; rfl)), fun k hk => ?_, fun k hk => ?_, fun k hk => ?_, fun k hk => ?_, fun k hk => ?_⟩
    · rw [m_tn_29 hk, m_tn_28 hk]
      refine (congrFun (hL4 _ (by omega)) k).trans ?_
      by_cases hk0 : k = 0
      · rw [hk0, if_pos rfl, if_pos rfl]; exact jj_us.trans hy
      · rw [if_neg hk0, if_neg hk0]; exact (jj_un (Or.inr hk0)).trans (hn.sn k)
    · rw [m_tn_29 hk, m_tn_28 hk]
      refine (congrFun (hr4 _ (by omega) (by omega) (by omega)) k).trans ?_
      by_cases hk0 : k = 0
      · rw [hk0, if_pos rfl, if_pos rfl]; exact jj_us.trans hx
      · rw [if_neg hk0, if_neg hk0]; exact (jj_un (Or.inr hk0)).trans (hn.sh k)
    · rw [m_tn_32] at hk; exact absurd hk (Nat.not_lt_zero _)
    · rw [m_tn_32] at hk; exact absurd hk (Nat.not_lt_zero _)
    · rw [m_tn_34] at hk; exact absurd hk (Nat.not_lt_zero _)
  have hA : cr_rel β ss (cr_up e 15 e4) (cr_up N 15 N4) ρ (cr_pl pl (nv (σ.1 0 11)) 0) (m_tn (nI ob) (nI f) v g on ab σ) τ4 I4 L4 r4 := h.addtask h40 hn11 hq9 hq.1 (fun x h1 h2 => (hτ4 x h1).trans ((hτ3 x (by omega)).trans (jj_tn (by omega)))) (fun x h1 h2 h3 => (hI4 x h2 h1).trans ((hm3 x h3).1.trans (jj_zn (by omega)))) (fun x h1 h2 => (hL4 x h1).trans ((jj_ua (by omega)).trans ((hm3 x h2).2.1.trans (jj_zn (by omega))))) (fun x h1 h2 h3 h4 => (hr4 x h1 h2 h3).trans ((jj_ua (by omega)).trans ((hm3 x h4).2.2.trans (jj_zn (by omega))))) hl4 he4 (fun k j hk => m_tn_o hk) m_tn_0 (fun u hu => if_neg (by omega)) hT (by rw [m_tn_22]; exact hon) (by rw [m_tn_23]; exact hab) ⟨by rw [m_tn_32]; decide, by rw [m_tn_34]; decide⟩
  refine kk_callV (pc := 65) hX (v_ccomes X.1 _ _ _ _ hA (by rw [q11]; omega) (by rw [q13, (m_tn_o (k := 0) (j := 0) (by unfold cr_tcell; omega)).1]; exact hob) ((if_pos rfl).trans m_tn_14.symm) (by rw [m_tn_14]; exact ⟨rfl, by decide⟩) (by rw [q13, (m_tn_o (k := 2) (j := ob) (by unfold cr_tcell; omega)).1]; exact hcm)) dX0_begins_65 (lw_V q917 q918 q919 q88 q920) rfl ⟨by decide +kernel, by decide +kernel, by show _ = some (0 : Nat); decide +kernel⟩ ⟨Nat.le_of_ble_eq_true rfl, Nat.le_of_ble_eq_true rfl, Nat.le_of_ble_eq_true rfl, Nat.le_of_ble_eq_true rfl, Nat.le_of_ble_eq_true rfl⟩ (fun q => by cases q) ((hτ4 _ (by omega)).trans hn.k.k0) jc_29 rfl (fun _ _ _ L5 r5 hP => ?_) jj_kno
  obtain ⟨rfl, rfl, rfl, h5⟩ := hP
  refine kk_aload (pc := 68) hX dX0_begins_68 rfl ?_
  refine kk_aret (pc := 70) hX dX0_begins_70 hr ⟨Nat.le_refl _, Nat.le_refl _⟩ (Or.inl ⟨_, rfl⟩) ?_
  exact ⟨rfl, fun x h1 h2 => (hτ4 x h1).trans ((hτ3 x (by omega)).trans (jj_tn (by omega))), (hτ4 _ (by omega)).trans hn.k.k0, _, _, h5⟩

theorem v_cbeginN (G : jj_G) (τ : jj_T) (I : jj_I) (L : jj_L) (r : jj_R) {β : Nat} {ss : List Nat} {e N : Nat → Nat} {ρ : jm} {pl : Nat → Int32} {σ : jm} (h : cr_rel β ss e N ρ pl σ τ I L r) (ob : Nat) (hob : ob < nv (σ.1 0 0)) (od : Int32) (hod : od = 0) (on ab : Int32) (onr abr : Option Nat) (honr : onr = cr_sr β on) (habr : abr = cr_sr β ab) (hon : nv on ∈ ss) (hab : cr_in ss ab) (v : Int64) (g : Int32) (y : Int64) (x : Option Nat) (hy : y = cr_nu g v) (hx : x = cr_hr β g v) (hx9 : ∀ w, x = some w → τ w = some (.inl 29) ∧ w < (β + 5000 + 20 * nv (σ.1 0 11))) (hcm : jb (σ.1 2 ob) 40) (h40 : nv (σ.1 0 11) + 1 ≤ 40) (hn11 : σ.1 0 11 = nI (nv (σ.1 0 11))) (h00 : τ 0 = some (.inr (3, 0))) (q : Nat) (hq : τ q = none ∧ ¬ (1 ≤ q ∧ q ≤ 6)) (hq9 : β + 10000 ≤ q) : kk_M G yX0_begins (ws_ yX0_begins cX0_begins 10 (some (.object "BranchCells$Task"))) { frames := 7, cells := 12, slots := 385, locals := 164 } [jR (some 10), jR none, jI od, jI (nI ob), jR onr, jR abr, jL y, jR x] true τ I L r (fun v' τ' I' L' r' => v' = some (jR (some (β + 5000 + 20 * nv (σ.1 0 11)))) ∧ (∀ x, x ≠ q → ¬ (β + 5000 + 20 * nv (σ.1 0 11) ≤ x ∧ x < β + 5000 + 20 * nv (σ.1 0 11) + 11) → τ' x = τ x) ∧ τ' (β + 5000 + 20 * nv (σ.1 0 11)) = some (.inl 29) ∧ ∃ e' N', cr_rel β ss e' N' ρ (cr_pl pl (nv (σ.1 0 11)) 0) (m_nt (nI ob) (-4) v g on ab σ) τ' I' L' r') jj_no := by
  refine kk_intro "BranchCells" (by decide) rfl (Nat.le_of_ble_eq_true rfl) ?_
  intro X hG hX hr hN hC hF hAd
  have h9 := h.bd
  have hbe := h.e.be
  have ho15 := h.e.ou 15 (by decide) (by decide)
  have hlo15 := h.e.lo 15 (by decide) (by decide)
  have ho13 := h.e.ou 13 (by decide) (by decide)
  have hlo13 := h.e.lo 13 (by decide) (by decide)
  have hne := h.ne hq.1
  have hn15 := hne 15 (by decide) (by decide)
  have hle := h.lb.le
  have hlt := h.lb.lt
  have fT : τ (β + 5000 + 20 * nv (σ.1 0 11)) = none ∧ ¬ (1 ≤ (β + 5000 + 20 * nv (σ.1 0 11)) ∧ (β + 5000 + 20 * nv (σ.1 0 11)) ≤ 6) := ⟨h.fr.t _ (Nat.le_refl _) (by omega) 0 (by decide), by omega⟩
  have hbb := h.bl ob hob
  refine kk_new (pc := 0) hX (β + 5000 + 20 * nv (σ.1 0 11)) ⟨fT.1, fT.2⟩ (hF rfl) dX0_begins_0 jc_29 q766 q767 q88 (by decide) ⟨Nat.le_of_ble_eq_true rfl, Nat.le_of_ble_eq_true rfl⟩ ?_
  refine kk_dup (pc := 3) hX dX0_begins_3 rfl ?_
  refine kk_aload_n (pc := 4) hX dX0_begins_4 rfl ?_
  refine kk_getR (pc := 5) hX (x := some 15) fl_X0_110_0 dX0_begins_5 (Eq.trans (jj_tn (by omega)) h.ro.k0) rfl (Eq.trans (congrFun (jj_zn (by omega)) _) h.ro.l5) ?_
  refine kk_callF (pc := 8) hX (v_size X.1 _ _ _ _ 15 (Eq.trans (jj_tn (by omega)) h.lt.k0)) dX0_begins_8 (lw_app (jj_wf q473 q477 q479 q53) (lw_meth q481)) (by decide +kernel) ⟨by decide +kernel, by decide +kernel, by show _ = some (0 : Nat); decide +kernel⟩ ⟨Nat.le_of_ble_eq_true rfl, Nat.le_of_ble_eq_true rfl, Nat.le_of_ble_eq_true rfl, Nat.le_of_ble_eq_true rfl, Nat.le_of_ble_eq_true rfl⟩ (fun q => by cases q) (Eq.trans (jj_tn (by omega)) h.lt.k0) jc_33 rfl (jj_keq ?_) jj_kno
  refine kk_top (nI (nv (σ.1 0 11))) (Eq.trans (congrFun (jj_zn (by omega)) 2) h.lt.sz) ?_
  refine kk_aload_n (pc := 13) hX dX0_begins_13 rfl ?_
  refine kk_iload_n (pc := 14) hX dX0_begins_14 rfl ?_
  refine kk_iload_n (pc := 15) hX dX0_begins_15 rfl ?_
  refine kk_aload_n (pc := 16) hX dX0_begins_16 rfl ?_
  refine kk_getR (pc := 17) hX (x := some 13) fl_X0_99_0 dX0_begins_17 (Eq.trans (jj_tn (by omega)) h.ro.k0) rfl (Eq.trans (congrFun (jj_zn (by omega)) _) h.ro.l1) ?_
  refine kk_iload_n (pc := 20) hX dX0_begins_20 rfl ?_
  refine kk_callF (pc := 21) hX (v_get X.1 _ _ _ _ 13 ob (Eq.trans (jj_tn (by omega)) h.lb.k0) (nv (σ.1 0 0)) (Eq.trans (congrFun (jj_zn (by omega)) 2) h.lb.sz) hob (e 13) (N 13) (some (100 + 10 * ob)) (Eq.trans (congrFun (jj_zn (by omega)) 1) h.lb.l1) (Eq.trans (jj_tn (by omega)) h.lb.ke) (by omega) hle (by omega) (Eq.trans (congrFun (jj_zn (by omega)) ob) (h.lb.el ob hob))) dX0_begins_21 (lw_app (jj_wf q603 q606 q608 q53) (lw_meth q610)) (by decide +kernel) ⟨by decide +kernel, by decide +kernel, by show _ = some (1 : Nat); decide +kernel⟩ ⟨Nat.le_of_ble_eq_true rfl, Nat.le_of_ble_eq_true rfl, Nat.le_of_ble_eq_true rfl, Nat.le_of_ble_eq_true rfl, Nat.le_of_ble_eq_true rfl⟩ (fun q => by cases q) (Eq.trans (jj_tn (by omega)) h.lb.k0) jc_33 rfl (jj_keq ?_) jj_kno
  refine kk_cast (pc := 26) hX dX0_begins_26 jc_26 (Eq.trans (jj_tn (by omega)) hbb.k0) q482 ?_
  refine kk_aload (pc := 29) hX dX0_begins_29 rfl ?_
  refine kk_aload (pc := 31) hX dX0_begins_31 rfl ?_
  refine kk_callI (pc := 33) hX (v_cTinitN X.1 _ _ _ _ (β + 5000 + 20 * nv (σ.1 0 11)) jj_ts (by omega) (fun i h1 h2 => (jj_tn (by omega)).trans (h.fr.t _ (Nat.le_refl _) (by omega) i (by omega))) (fun j => jj_zs) (nI (nv (σ.1 0 11))) od (nI ob) (some (100 + 10 * ob)) onr abr) dX0_begins_33 (lw_meth q770) ⟨q768, q769, q88, rfl⟩ ⟨by decide +kernel, by decide +kernel, by show _ = some (7 : Nat); decide +kernel⟩ ⟨Nat.le_of_ble_eq_true rfl, Nat.le_of_ble_eq_true rfl, Nat.le_of_ble_eq_true rfl, Nat.le_of_ble_eq_true rfl, Nat.le_of_ble_eq_true rfl⟩ (fun _ => hF rfl) rfl (fun _ τ3 I3 L3 r3 hP => ?_) jj_kno
  obtain ⟨rfl, hτ3, hm3, hn⟩ := hP
  refine kk_astore (pc := 36) hX dX0_begins_36 (by decide) ?_
  refine kk_aload (pc := 38) hX dX0_begins_38 rfl ?_
  refine kk_getR (pc := 40) hX (x := some (β + 5000 + 20 * nv (σ.1 0 11) + 4)) fl_X0_158_29 dX0_begins_40 hn.k.k0 rfl hn.l.sl ?_
  refine kk_iconst (pc := 43) hX (v := 0) dX0_begins_43 (by decide) ?_
  refine kk_lload (pc := 44) hX dX0_begins_44 rfl ?_
  refine kk_aload (pc := 46) hX dX0_begins_46 rfl ?_
  refine kk_callV (pc := 48) hX (v_Vput30 X.1 _ _ _ _ (β + 5000 + 20 * nv (σ.1 0 11) + 4) (β + 5000 + 20 * nv (σ.1 0 11) + 5) (β + 5000 + 20 * nv (σ.1 0 11) + 6) 8 hn.k.k4 hn.l.s0 hn.l.s1 hn.k.k5 hn.k.k6 (by decide) 0 y x (by decide) (fun w hw => (hτ3 w (by have := (hx9 w hw).2; omega)).trans ((jj_tn (by have := (hx9 w hw).2; omega)).trans (hx9 w hw).1))) dX0_begins_48 (lw_V q911 q912 q913 q91 q916) rfl ⟨by decide +kernel, by decide +kernel, by show _ = some (3 : Nat); decide +kernel⟩ ⟨Nat.le_of_ble_eq_true rfl, Nat.le_of_ble_eq_true rfl, Nat.le_of_ble_eq_true rfl, Nat.le_of_ble_eq_true rfl, Nat.le_of_ble_eq_true rfl⟩ (fun q => by cases q) hn.k.k4 jc_30 rfl (jj_keq ?_) jj_kno
  refine kk_aload_n (pc := 51) hX dX0_begins_51 rfl ?_
  refine kk_getR (pc := 52) hX (x := some 15) fl_X0_110_0 dX0_begins_52 ((hτ3 10 (by omega)).trans ((jj_tn (by omega)).trans h.ro.k0)) rfl (Eq.trans (jj_un (Or.inl (by omega))) ((congrFun (hm3 10 (by omega)).2.2 5).trans ((congrFun (jj_zn (by omega)) 5).trans h.ro.l5))) ?_
  refine kk_aload (pc := 55) hX dX0_begins_55 rfl ?_
  have hl2 : cr_lst 15 (e 15) (N 15) (nv (σ.1 0 11)) (fun t => β + 5000 + 20 * t) τ3 I3 (jj_u r3 (β + 5000 + 20 * nv (σ.1 0 11) + 6) 0 x) := h.lt.cg ((hτ3 15 (by omega)).trans (jj_tn (by omega))) (congrFun ((hm3 15 (by omega)).1.trans (jj_zn (by omega))) 2) ((jj_ua (by omega)).trans ((hm3 15 (by omega)).2.2.trans (jj_zn (by omega)))) ((hτ3 _ (by omega)).trans (jj_tn (by omega))) ((jj_ua (by omega)).trans ((hm3 _ (by omega)).2.2.trans (jj_zn (by omega))))
  have hel : ∀ i, i < nv (σ.1 0 11) → τ3 (β + 5000 + 20 * i) = some (.inl 29) := fun i hi => (hτ3 _ (by omega)).trans ((jj_tn (by omega)).trans (h.tk i hi).k.k0)
  refine kk_callF (pc := 57) hX (v_ladd X.1 _ _ _ _ hl2 (β + 5000 + 20 * nv (σ.1 0 11)) hn.k.k0 jc_29 (jj_inT q1808 rfl) hel ((hτ3 0 (by omega)).trans ((jj_tn (by omega)).trans h00)) (by omega) q ⟨(hτ3 q (by omega)).trans ((jj_tn (by omega)).trans hq.1), hq.2⟩) dX0_begins_57 (lw_app (jj_wf q503 q506 q508 q53) (lw_meth q510)) (by decide +kernel) ⟨by decide +kernel, by decide +kernel, by show _ = some (1 : Nat); decide +kernel⟩ ⟨Nat.le_of_ble_eq_true rfl, Nat.le_of_ble_eq_true rfl, Nat.le_of_ble_eq_true rfl, Nat.le_of_ble_eq_true rfl, Nat.le_of_ble_eq_true rfl⟩ (fun _ => hF rfl) ((hτ3 15 (by omega)).trans ((jj_tn (by omega)).trans h.lt.k0)) jc_33 rfl (fun _ τ4 I4 L4 r4 hP => ?_) jj_kno
  obtain ⟨rfl, e4, N4, hl4, he4, hth4, hτ4, hI4, hL4, hr4⟩ := hP
  refine kk_pop (pc := 62) hX dX0_begins_62 rfl ?_
  refine kk_aload (pc := 63) hX dX0_begins_63 rfl ?_
  have q11 : nv ((m_tn (nI ob) (-4) v g on ab σ).1 0 11) = nv (σ.1 0 11) + 1 := by rw [m_tn_0, sz_un hn11 (by omega)]
  have q13 : nv ((m_tn (nI ob) (-4) v g on ab σ).1 13 (nv (σ.1 0 11))) = ob := by rw [m_tn_13, nv_nI (by omega)]
  have rT : ∀ i, i < 11 → i ≠ 6 → r4 ((β + 5000 + 20 * nv (σ.1 0 11)) + i) = r3 ((β + 5000 + 20 * nv (σ.1 0 11)) + i) := fun i h1 h2 => (hr4 _ (by omega) (by omega) (by omega)).trans (jj_ua (by omega))
  have IT : ∀ i, i < 11 → I4 ((β + 5000 + 20 * nv (σ.1 0 11)) + i) = I3 ((β + 5000 + 20 * nv (σ.1 0 11)) + i) := fun i h1 => hI4 _ (by omega) (by omega)
  have LT : ∀ i, i < 11 → i ≠ 5 → L4 ((β + 5000 + 20 * nv (σ.1 0 11)) + i) = L3 ((β + 5000 + 20 * nv (σ.1 0 11)) + i) := fun i h1 h2 => (hL4 _ (by omega)).trans (jj_ua (by omega))
  have hT : cr_tsk β (m_tn (nI ob) (-4) v g on ab σ) (cr_pl pl (nv (σ.1 0 11)) 0) (nv (σ.1 0 11)) (β + 5000 + 20 * nv (σ.1 0 11)) τ4 I4 L4 r4 := by
    refine ⟨⟨(hτ4 _ (by omega)).trans hn.k.k0, (hτ4 _ (by omega)).trans hn.k.k1, (hτ4 _ (by omega)).trans hn.k.k2, (hτ4 _ (by omega)).trans hn.k.k3, (hτ4 _ (by omega)).trans hn.k.k4, (hτ4 _ (by omega)).trans hn.k.k5, (hτ4 _ (by omega)).trans hn.k.k6, (hτ4 _ (by omega)).trans hn.k.k7, (hτ4 _ (by omega)).trans hn.k.k8, (hτ4 _ (by omega)).trans hn.k.k9, (hτ4 _ (by omega)).trans hn.k.k10⟩, ⟨(congrFun (rT 0 (by decide) (by decide)) 12).trans hn.l.re, (congrFun (rT 0 (by decide) (by decide)) 14).trans hn.l.sl, (congrFun (rT 0 (by decide) (by decide)) 15).trans hn.l.pi, (congrFun (rT 0 (by decide) (by decide)) 16).trans hn.l.ou, (congrFun (rT 1 (by decide) (by decide)) 0).trans hn.l.r0, (congrFun (rT 1 (by decide) (by decide)) 1).trans hn.l.r1, (congrFun (rT 4 (by decide) (by decide)) 0).trans hn.l.s0, (congrFun (rT 4 (by decide) (by decide)) 1).trans hn.l.s1, (congrFun (rT 7 (by decide) (by decide)) 0).trans hn.l.p0, (congrFun (rT 7 (by decide) (by decide)) 1).trans hn.l.p1⟩, ⟨(congrFun (IT 0 (by decide)) 0).trans hn.nu, (congrFun (rT 0 (by decide) (by decide)) 1).trans (hn.pa.trans (by rw [m_tn_20]; rfl)), (congrFun (IT 0 (by decide)) 2).trans (hn.od.trans (by rw [m_tn_21]; exact hod)), (congrFun (IT 0 (by decide)) 3).trans (hn.de.trans (by rw [m_tn_19]; rfl)), (congrFun (IT 0 (by decide)) 4).trans (hn.bn.trans m_tn_13.symm), (congrFun (rT 0 (by decide) (by decide)) 5).trans (hn.bl.trans (by rw [q13])), (congrFun (rT 0 (by decide) (by decide)) 19).trans (hn.ro.trans (habr.trans (congrArg (cr_sr β) m_tn_23.symm)))⟩, ⟨(congrFun (IT 0 (by decide)) 6).trans (hn.i6.trans (if_pos rfl).symm), (congrFun (IT 0 (by decide)) 7).trans (hn.i7.trans m_tn_17.symm), (congrFun (IT 0 (by decide)) 8).trans (hn.i8.trans m_tn_18.symm), (congrFun (IT 0 (by decide)) 9).trans (hn.i9.trans m_tn_16.symm), cr_st.cg m_tn_15 ((congrFun (rT 0 (by decide) (by decide)) 10).trans hn.st) ((congrFun (IT 0 (by decide)) 11).trans hn.i11) (Or.inl ⟨rfl, rfl, rfl⟩), (congrFun (LT 0 (by decide) (by decide)) 13).trans (hn.mk.trans m_tn_24.symm), (congrFun (IT 0 (by decide)) 17).trans (hn.i17.trans m_tn_34.symm), (congrFun (rT 0 (by decide) (by decide)) 18).trans (hn.pr.trans (honr.trans (congrArg (cr_sr β) m_tn_22.symm))), (congrFun (IT 7 (by decide)) 2).trans (hn.ps.trans m_tn_32.symm)⟩, ?_⟩
    refine ⟨(congrFun (LT 2 (by decide) (by decide)) 0).trans (hn.rn.trans (by rw [m_tn_27, m_tn_26]; rfl)), (congrFun (rT 3 (by decide) (by decide)) 0).trans (hn.rh.trans (by rw [m_tn_27, m_tn_26]; rfl)), fun k hk => ?_, fun k hk => ?_, fun k hk => ?_, fun k hk => ?_, fun k hk => ?_⟩
    · rw [m_tn_29 hk, m_tn_28 hk]
      refine (congrFun (hL4 _ (by omega)) k).trans ?_
      by_cases hk0 : k = 0
      · rw [hk0, if_pos rfl, if_pos rfl]; exact jj_us.trans hy
      · rw [if_neg hk0, if_neg hk0]; exact (jj_un (Or.inr hk0)).trans (hn.sn k)
    · rw [m_tn_29 hk, m_tn_28 hk]
      refine (congrFun (hr4 _ (by omega) (by omega) (by omega)) k).trans ?_
      by_cases hk0 : k = 0
      · rw [hk0, if_pos rfl, if_pos rfl]; exact jj_us.trans hx
      · rw [if_neg hk0, if_neg hk0]; exact (jj_un (Or.inr hk0)).trans (hn.sh k)
    · rw [m_tn_32] at hk; exact absurd hk (Nat.not_lt_zero _)
    · rw [m_tn_32] at hk; exact absurd hk (Nat.not_lt_zero _)
    · rw [m_tn_34] at hk; exact absurd hk (Nat.not_lt_zero _)
  have hA : cr_rel β ss (cr_up e 15 e4) (cr_up N 15 N4) ρ (cr_pl pl (nv (σ.1 0 11)) 0) (m_tn (nI ob) (-4) v g on ab σ) τ4 I4 L4 r4 := h.addtask h40 hn11 hq9 hq.1 (fun x h1 h2 => (hτ4 x h1).trans ((hτ3 x (by omega)).trans (jj_tn (by omega)))) (fun x h1 h2 h3 => (hI4 x h2 h1).trans ((hm3 x h3).1.trans (jj_zn (by omega)))) (fun x h1 h2 => (hL4 x h1).trans ((jj_ua (by omega)).trans ((hm3 x h2).2.1.trans (jj_zn (by omega))))) (fun x h1 h2 h3 h4 => (hr4 x h1 h2 h3).trans ((jj_ua (by omega)).trans ((hm3 x h4).2.2.trans (jj_zn (by omega))))) hl4 he4 (fun k j hk => m_tn_o hk) m_tn_0 (fun u hu => if_neg (by omega)) hT (by rw [m_tn_22]; exact hon) (by rw [m_tn_23]; exact hab) ⟨by rw [m_tn_32]; decide, by rw [m_tn_34]; decide⟩
  refine kk_callV (pc := 65) hX (v_ccomes X.1 _ _ _ _ hA (by rw [q11]; omega) (by rw [q13, (m_tn_o (k := 0) (j := 0) (by unfold cr_tcell; omega)).1]; exact hob) ((if_pos rfl).trans m_tn_14.symm) (by rw [m_tn_14]; exact ⟨rfl, by decide⟩) (by rw [q13, (m_tn_o (k := 2) (j := ob) (by unfold cr_tcell; omega)).1]; exact hcm)) dX0_begins_65 (lw_V q917 q918 q919 q88 q920) rfl ⟨by decide +kernel, by decide +kernel, by show _ = some (0 : Nat); decide +kernel⟩ ⟨Nat.le_of_ble_eq_true rfl, Nat.le_of_ble_eq_true rfl, Nat.le_of_ble_eq_true rfl, Nat.le_of_ble_eq_true rfl, Nat.le_of_ble_eq_true rfl⟩ (fun q => by cases q) ((hτ4 _ (by omega)).trans hn.k.k0) jc_29 rfl (fun _ _ _ L5 r5 hP => ?_) jj_kno
  obtain ⟨rfl, rfl, rfl, h5⟩ := hP
  refine kk_aload (pc := 68) hX dX0_begins_68 rfl ?_
  refine kk_aret (pc := 70) hX dX0_begins_70 hr ⟨Nat.le_refl _, Nat.le_refl _⟩ (Or.inl ⟨_, rfl⟩) ?_
  exact ⟨rfl, fun x h1 h2 => (hτ4 x h1).trans ((hτ3 x (by omega)).trans (jj_tn (by omega))), (hτ4 _ (by omega)).trans hn.k.k0, _, _, h5⟩
