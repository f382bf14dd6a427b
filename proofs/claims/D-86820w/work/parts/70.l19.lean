set_option maxRecDepth 100000
theorem cost_f {x y m : Nat} {c : Int32} (h : c = 3) (hm : y + x * (if c = 0 then 0 else 1) ≤ m) : x ≤ m := by
  subst h
  rw [if_neg (by decide)] at hm
  omega
theorem lt12 {x : Int32} (h : jb x 12) (h2 : ¬ x = 12) : nv x < 12 := by
  have := h.2
  rcases Nat.lt_or_ge (nv x) 12 with q | q
  · exact q
  · exact absurd (h.1.trans (congrArg nI (show nv x = 12 by omega))) h2
theorem hpl_ok {σ sD : jm} {t : Nat} {nx : Int32} (h14 : ∀ u, sD.1 14 u = σ.1 14 u) : ∀ u, cr_pl (σ.1 14) t nx u = (m_u sD 14 t nx).1 14 u := by
  intro u
  unfold cr_pl
  by_cases hu : u = t
  · rw [if_pos hu, hu, mu_s]
  · rw [if_neg hu, mu_n (Or.inr hu), h14]
theorem d14_o {t a : Nat} {σ : jm} {k j : Nat} (h : k ≠ 29 ∧ k ≠ 31 ∧ k ≠ 32) : (m_d14 t a σ).1 k j = σ.1 k j := by
  have e : ∀ v g, (m_push t v g σ).1 k j = σ.1 k j := fun v g => by unfold m_push; rw [mu_n (Or.inl h.2.2), mu_n (Or.inl h.2.1), mv_1]
  unfold m_d14
  split
  · exact e _ _
  · rw [mu_n (Or.inl h.1), mv_1]; exact e _ _
theorem jc_o {t o9 c : Nat} {σ : jm} {k j : Nat} (h : k ≠ 39 ∧ (k = 0 → j ≠ 35)) : (m_jc t o9 c σ).1 k j = σ.1 k j := by
  unfold m_jc
  split
  · rfl
  · unfold m_mc m_write
    rw [mu_n (by by_cases z : k = 0; exact Or.inr (h.2 z); exact Or.inl z), mv_1, mu_n (Or.inl h.1)]
    exact congrFun (congrFun cj_mof1 k) j
theorem jl_o {t o9 : Nat} {k j : Nat} (h : k ≠ 39 ∧ (k = 0 → j ≠ 35)) : ∀ (n c : Nat) (σ : jm), (m_jl t o9 n c σ).1 k j = σ.1 k j := by
  intro n
  induction n with
  | zero => intro c σ; rfl
  | succ n ih => intro c σ; unfold m_jl; rw [ih, jc_o h]
theorem j1_o {t o9 : Nat} {σ : jm} {k j : Nat} (h : k ≠ 34 ∧ (k = 15 → j ≠ o9)) : (m_j1 t o9 σ).1 k j = σ.1 k j := by
  unfold m_j1
  rw [m_tls_1 h.1, mv_1, mu_n (by by_cases z : k = 15; exact Or.inr (h.2 z); exact Or.inl z)]
theorem j2_o {t o9 : Nat} {σ : jm} {k j : Nat} (h : k ≠ 39 ∧ k ≠ 31 ∧ k ≠ 32 ∧ (k = 0 → j ≠ 35)) : (m_j2 t o9 σ).1 k j = σ.1 k j := by
  unfold m_j2 m_push
  rw [mu_n (Or.inl h.2.2.1), mu_n (Or.inl h.2.1), mv_1, jl_o ⟨h.1, h.2.2.2⟩]
theorem fork_e {t : Nat} {ob : Int32} {v : Int64} {g : Int32} {σ : jm} (ht : t < nv (σ.1 0 11)) (hn : σ.1 0 11 = nI (nv (σ.1 0 11))) (h40 : nv (σ.1 0 11) + 1 ≤ 40) : nv ((m_fork t ob v g σ).1 0 11) = nv (σ.1 0 11) + 1 ∧ (m_fork t ob v g σ).1 15 t = σ.1 15 t ∧ (∀ u, u < nv (σ.1 0 11) → (m_fork t ob v g σ).1 14 u = σ.1 14 u) ∧ (m_fork t ob v g σ).1 14 (nv (σ.1 0 11)) = 0 := by
  have e : (m_ns (σ.1 22 t) (m_f1 t σ)).1 0 11 = σ.1 0 11 := by rw [m_ns_11 (by decide), m_f1_11 (by decide)]
  have p : ∀ k j, k ≠ 31 ∧ k ≠ 32 → (m_fork t ob v g σ).1 k j = (m_nt ob (nI t) v g (σ.1 0 36 + 1) (σ.1 22 t) (m_ns (σ.1 22 t) (m_f1 t σ))).1 k j := fun k j h => by
    unfold m_fork m_push
    rw [mu_n (Or.inl h.2), mu_n (Or.inl h.1), mv_1]
  refine ⟨?_, ?_, fun u hu => ?_, ?_⟩
  · rw [p 0 11 (by decide), fk_11, sz_un hn (by omega)]
  · rw [p 15 t (by decide), m_nt_e, (m_eb_o (by rw [e]; omega)).1, (m_tn_o (by unfold cr_tcell; rw [e]; omega)).1, m_ns_t (by decide), m_f1_o (by decide)]
  · rw [p 14 u (by decide), m_nt_e, (m_eb_o (by rw [e]; omega)).1, (m_tn_o (by unfold cr_tcell; rw [e]; omega)).1, m_ns_t (by decide), m_f1_o (by decide)]
  · rw [p 14 _ (by decide), m_nt_e, m_eb_14]
    have q := m_tn_14 (ob := ob) (fr := nI t) (v := v) (h := g) (on := σ.1 0 36 + 1) (ab := σ.1 22 t) (σ := m_ns (σ.1 22 t) (m_f1 t σ))
    rw [e] at q
    exact q
theorem w21 (x : Int64) : ¬ (100 : Int32) + (x &&& 63).toInt32 ≤ 0 := by
  have e1 : (x &&& 63) = Int64.ofBitVec (BitVec.ofNat 64 (x.toBitVec.toNat % 64)) := by
    apply Int64.toBitVec_inj.mp
    apply BitVec.eq_of_toNat_eq
    rw [Int64.toBitVec_and, BitVec.toNat_and]
    show x.toBitVec.toNat &&& 63 = (BitVec.ofNat 64 (x.toBitVec.toNat % 64)).toNat
    rw [BitVec.toNat_ofNat, show (63 : Nat) = 2 ^ 6 - 1 from rfl, Nat.and_two_pow_sub_one_eq_mod]
    omega
  have h64 : x.toBitVec.toNat % 64 < 64 := Nat.mod_lt _ (by decide)
  rw [e1]
  generalize x.toBitVec.toNat % 64 = n at h64
  exact (by decide +kernel : ∀ n, n < 64 → ¬ (100 : Int32) + (Int64.ofBitVec (BitVec.ofNat 64 n)).toInt32 ≤ 0) n h64
theorem ends_15 {t : Nat} {v : Int64} {g : Int32} {σ : jm} : (m_ends t v g σ).1 15 t = 2 := by
  unfold m_ends
  rw [mu_n (Or.inl (by decide)), mv_1, mu_n (Or.inl (by decide)), mu_s]
theorem v_d0 {X : jj_X} {o : jj_T} {mc ms : Nat} (hX : kk_ok X cX0_does "BranchCells" 6 10 245 mc ms) (hr : jj_Ret X none) {τ : jj_T} {I : jj_I} {L : jj_L} {r : jj_R} {β : Nat} {ss : List Nat} {e N : Nat → Nat} {ρ : jm} (hT : jj_Tbl X (tableOf [((67 : Nat), (137 : Nat), (140 : Nat), (9 : Nat))])) (hFr : jj_Fr X) {t : Nat} {σ σe : jm} (h : cr_rel β ss e N ρ (σ.1 14) σ τ I L r) (hv : m_inv σ) (ht : t < nv (σ.1 0 11)) (h0 : σ.1 15 t = 0) (a : Int32) (hE : m_s5 t 0 a σ = σe) (hi : m_inv σe) (hmc : 20 * (nv (σe.1 0 11) - nv (σ.1 0 11)) + 2 * (if σe.1 15 t = 0 then 0 else 1) ≤ mc) (hms : 1000 * (nv (σe.1 0 11) - nv (σ.1 0 11)) + 20 * (if σe.1 15 t = 0 then 0 else 1) ≤ ms) : kk_J X o (kk_End X o (fun v' τ' I' L' r' => v' = none ∧ ∃ ss' e' N', cr_rel β ss' e' N' ρ (σe.1 14) σe τ' I' L' r') jj_no mc ms) 0 0 87 [(0, jR (some 10)), (1, jR (some (β + 5000 + 20 * t))), (2, jI 0), (3, jI a), (4, jI (σ.1 14 t))] [] τ I L r := by
  have hk := h.tk t ht
  have hp9 := (hv.tk t ht).po.1
  have hT9 := hv.T
  refine kk_free (β + 10000) (fun q hq9 hq7f hqf => ?_)
  have hq7 : τ q = none ∧ ¬ (1 ≤ q ∧ q ≤ 6) := ⟨hqf q (Nat.le_refl _), by omega⟩
  refine kk_aload_n (pc := 87) hX dX0_does_87 rfl ?_
  refine kk_getR (pc := 88) hX (x := some (β + 5000 + 20 * t + 7)) fl_X0_253_29 dX0_does_88 hk.k.k0 rfl hk.l.pi ?_
  refine kk_getI (pc := 91) hX fl_X0_334_31 dX0_does_91 hk.k.k7 rfl ?_
  refine kk_top (σ.1 32 t) hk.v.ps ?_
  refine kk_aload_n (pc := 94) hX dX0_does_94 rfl ?_
  refine kk_getR (pc := 95) hX (x := some 11) fl_X0_15_0 dX0_does_95 h.ro.k0 rfl h.ro.l0 ?_
  refine kk_iload_n (pc := 98) hX dX0_does_98 rfl ?_
  refine kk_aald (pc := 99) hX (x := some 20) 0 dX0_does_99 h.ro.k1 (by decide) rfl ⟨by omega, by omega⟩ (h.ro.dl 0 (by decide)) ?_
  refine kk_callUU (pc := 100) hX (owner := "BranchCells$Doer") (v_takes0 X.1 _ _ _ _ 20 (h.ro.dd 0 (by decide)).k0 (nI (m_tk 0)) (h.ro.dd 0 (by decide)).tk) dX0_does_100 (jj_wU q1025 q1027 q1028 q1026 q54 (lw_meth q1050)) rfl ⟨by decide +kernel, by decide +kernel, by show _ = some (0 : Nat); decide +kernel⟩ ⟨Nat.le_of_ble_eq_true rfl, Nat.le_of_ble_eq_true rfl, Nat.le_of_ble_eq_true rfl, Nat.le_of_ble_eq_true rfl, Nat.le_of_ble_eq_true rfl⟩ (fun q => by cases q) (h.ro.dd 0 (by decide)).k0 jc_2 rfl (jj_keq ?_) jj_kno
  by_cases hge : nI (m_tk 0) ≤ σ.1 32 t
  · refine kk_icmp_ge (pc := 103) hX 116 dX0_does_103 rfl (fun _ => ?_) (fun q => absurd hge q)
    refine kk_aload_n (pc := 116) hX dX0_does_116 rfl ?_
    refine kk_dup (pc := 117) hX dX0_does_117 rfl ?_
    refine kk_getI (pc := 118) hX fl_X0_328_29 dX0_does_118 hk.k.k0 rfl ?_
    refine kk_top ((σ.1 14) t) hk.v.pl ?_
    refine kk_iconst (pc := 121) hX (v := 1) dX0_does_121 (by decide) ?_
    refine kk_iadd (pc := 122) hX dX0_does_122 ?_
    refine kk_putI (pc := 123) hX fl_X0_328_29 dX0_does_123 hk.k.k0 rfl rfl ?_
    refine kk_aload_n (pc := 126) hX dX0_does_126 rfl ?_
    refine kk_getR (pc := 127) hX (x := some 11) fl_X0_15_0 dX0_does_127 h.ro.k0 rfl h.ro.l0 ?_
    refine kk_iload_n (pc := 130) hX dX0_does_130 rfl ?_
    refine kk_aald (pc := 131) hX (x := some 20) 0 dX0_does_131 h.ro.k1 (by decide) rfl ⟨by omega, by omega⟩ (h.ro.dl 0 (by decide)) ?_
    refine kk_aload_n (pc := 132) hX dX0_does_132 rfl ?_
    refine kk_iload_n (pc := 133) hX dX0_does_133 rfl ?_
    have h2 := at_pl h ht (σ.1 14 t + 1)
    by_cases hp : σ.1 32 t = 12
    · have hEE : m_fails t 7 (σ) = m_s5 t 0 a σ := by
        have z := st_bad3 (t := t) (j := 0) (a := a) (n := 0) (x := 0) (y := 0) (xh := 0) (σ := σ) (w := 7) (by rw [s2_0]; exact (if_pos hp)) (by decide)
        rw [s2_0] at z
        exact z.trans (st_0 rfl hge).symm
      have hst3 : σe.1 15 t = 3 := by rw [← hEE.trans hE]; exact m_fails_15
      refine kk_callU (pc := 134) hX (owner := "BranchCells$Doer") (v_do0X X.1 _ _ _ _ h2 hv ht h0 a hp q hq7 hq9) dX0_does_134 (lw_meth q1056) ⟨q1051, q1053, q1054, q1055, q55, jj_inT q1052 rfl⟩ ⟨by decide +kernel, by decide +kernel, by show _ = some (2 : Nat); decide +kernel⟩ ⟨Nat.le_of_ble_eq_true rfl, Nat.le_of_ble_eq_true rfl, Nat.le_trans (by decide) (cost_f hst3 hmc), Nat.le_trans (by decide) (cost_f hst3 hms), Nat.le_of_ble_eq_true rfl⟩ (fun _ => hFr) (h.ro.dd 0 (by decide)).k0 jc_2 rfl jj_knp (fun a9 τ3 I3 L3 r3 hP => ?_)
      obtain ⟨rfl, hw9, h3⟩ := hP
      have e11 : (σ).1 0 11 = σ.1 0 11 := rfl
      exact v_catch hX hr hT (σF := σ) (Eq.trans hEE hE) hi (by rw [e11]; exact ht) h0 h3 ((fun _ => rfl) t).symm (fun u hu => (if_neg hu).trans ((fun _ => rfl) u).symm) hw9 ⟨Nat.le_trans (by decide) (cost_f hst3 hmc), Nat.le_trans (by decide) (cost_f hst3 hms)⟩ ⟨by decide, by decide⟩
    · have hp2 := lt12 hp9 hp
      refine kk_callU (pc := 134) hX (owner := "BranchCells$Doer") (v_do0 X.1 _ _ _ _ h2 hv ht h0 a hp2) dX0_does_134 (lw_meth q1056) ⟨q1051, q1053, q1054, q1055, q55, jj_inT q1052 rfl⟩ ⟨by decide +kernel, by decide +kernel, by show _ = some (2 : Nat); decide +kernel⟩ ⟨Nat.le_of_ble_eq_true rfl, Nat.le_of_ble_eq_true rfl, Nat.zero_le _, Nat.zero_le _, Nat.le_of_ble_eq_true rfl⟩ (fun q => by cases q) (h.ro.dd 0 (by decide)).k0 jc_2 rfl (fun _ _ I3 L3 r3 hP => ?_) jj_kno
      obtain ⟨rfl, rfl, h3⟩ := hP
      refine kk_goto (pc := 137) hX 164 dX0_does_137 rfl ?_
      refine kk_lss [(1, jR (some (β + 5000 + 20 * t)))] ⟨rfl, trivial⟩ ?_
      have e11 : (m_push t (a).toInt64 0 σ).1 0 11 = σ.1 0 11 := rfl
      have hEE : m_eb t (m_u (m_push t (a).toInt64 0 σ) 14 t (σ.1 14 t + 1)) = m_s5 t 0 a σ := Eq.trans (st_ok3 (t := t) (j := 0) (a := a) (n := 0) (x := 0) (y := 0) (xh := 0) (σ := σ) (by rw [s2_0]; show (if σ.1 32 t = 12 then (7 : Int32) else 0) ≤ 0; rw [if_neg hp]; decide) (by rw [s2_0]; rfl) (by rw [s2_0]; rfl) (fun z => absurd (h0.symm.trans z) (by decide))) (st_0 rfl hge).symm
      exact v_fin hX hr (σ9 := m_u (m_push t (a).toInt64 0 σ) 14 t (σ.1 14 t + 1)) (Eq.trans hEE hE) hi (by rw [mu_n (Or.inl (by decide)), e11]; exact ht) (at_14 h3 (by rw [e11]; exact ht) (σ.1 14 t + 1)) (fun u _ => hpl_ok (fun _ => rfl) u) ⟨Nat.zero_le _, Nat.zero_le _⟩
  · have hEE := st_few (a := a) hge
    have hst3 : σe.1 15 t = 3 := by rw [← hEE.trans hE]; exact m_fails_15
    refine kk_icmp_ge (pc := 103) hX 116 dX0_does_103 rfl (fun q => absurd q hge) (fun _ => ?_)
    refine kk_new (pc := 106) hX q ⟨hq7.1, hq7.2⟩ hFr dX0_does_106 jc_32 q961 q963 q95 (by decide) ⟨Nat.le_trans (by decide) (cost_f hst3 hmc), Nat.le_trans (by decide) (cost_f hst3 hms)⟩ ?_
    refine kk_dup (pc := 109) hX dX0_does_109 rfl ?_
    refine kk_bipush (pc := 110) hX (v := 8) dX0_does_110 (by decide) ?_
    refine kk_callI (pc := 112) hX (v_Fi X.1 _ _ _ _ q jj_ts 8) dX0_does_112 (lw_meth q1001) ⟨q999, q1000, q95, rfl⟩ ⟨by decide +kernel, by decide +kernel, by show _ = some (1 : Nat); decide +kernel⟩ ⟨Nat.le_of_ble_eq_true rfl, Nat.le_of_ble_eq_true rfl, Nat.le_trans (by decide) (cost_f hst3 hmc), Nat.le_trans (by decide) (cost_f hst3 hms), Nat.le_of_ble_eq_true rfl⟩ (fun q => by cases q) rfl (jj_keq ?_) jj_kno
    refine kk_athrow (pc := 115) hX dX0_does_115 jj_ts ?_
    exact v_catch hX hr hT (hEE.trans hE) hi ht h0 (cr_rel.gar h hq7.1 hq9 (fun b hb => jj_tn hb) (fun b hb => (jj_ua hb).trans (jj_zn hb)) (fun b hb => jj_zn hb) (fun b hb => (jj_ua hb).trans ((jj_ua hb).trans ((jj_ua hb).trans ((jj_ua hb).trans ((jj_ua hb).trans ((jj_ua hb).trans ((jj_ua hb).trans (jj_zn hb))))))))) rfl (fun _ _ => rfl) jj_us ⟨Nat.le_trans (by decide) (cost_f hst3 hmc), Nat.le_trans (by decide) (cost_f hst3 hms)⟩ ⟨by decide, by decide⟩

theorem v_d1 {X : jj_X} {o : jj_T} {mc ms : Nat} (hX : kk_ok X cX0_does "BranchCells" 6 10 245 mc ms) (hr : jj_Ret X none) {τ : jj_T} {I : jj_I} {L : jj_L} {r : jj_R} {β : Nat} {ss : List Nat} {e N : Nat → Nat} {ρ : jm} (hT : jj_Tbl X (tableOf [((67 : Nat), (137 : Nat), (140 : Nat), (9 : Nat))])) (hFr : jj_Fr X) {t : Nat} {σ σe : jm} (h : cr_rel β ss e N ρ (σ.1 14) σ τ I L r) (hv : m_inv σ) (ht : t < nv (σ.1 0 11)) (h0 : σ.1 15 t = 0) (k : Nat) (hc : k < 16) (hE : m_s5 t 1 (nI k) σ = σe) (hi : m_inv σe) (hmc : 20 * (nv (σe.1 0 11) - nv (σ.1 0 11)) + 2 * (if σe.1 15 t = 0 then 0 else 1) ≤ mc) (hms : 1000 * (nv (σe.1 0 11) - nv (σ.1 0 11)) + 20 * (if σe.1 15 t = 0 then 0 else 1) ≤ ms) : kk_J X o (kk_End X o (fun v' τ' I' L' r' => v' = none ∧ ∃ ss' e' N', cr_rel β ss' e' N' ρ (σe.1 14) σe τ' I' L' r') jj_no mc ms) 0 0 87 [(0, jR (some 10)), (1, jR (some (β + 5000 + 20 * t))), (2, jI 1), (3, jI (nI k)), (4, jI (σ.1 14 t))] [] τ I L r := by
  have hk := h.tk t ht
  have hp9 := (hv.tk t ht).po.1
  have hT9 := hv.T
  have hkv : nv (nI k) = k := nv_nI (by omega)
  refine kk_free (β + 10000) (fun q hq9 hq7f hqf => ?_)
  have hq7 : τ q = none ∧ ¬ (1 ≤ q ∧ q ≤ 6) := ⟨hqf q (Nat.le_refl _), by omega⟩
  refine kk_aload_n (pc := 87) hX dX0_does_87 rfl ?_
  refine kk_getR (pc := 88) hX (x := some (β + 5000 + 20 * t + 7)) fl_X0_253_29 dX0_does_88 hk.k.k0 rfl hk.l.pi ?_
  refine kk_getI (pc := 91) hX fl_X0_334_31 dX0_does_91 hk.k.k7 rfl ?_
  refine kk_top (σ.1 32 t) hk.v.ps ?_
  refine kk_aload_n (pc := 94) hX dX0_does_94 rfl ?_
  refine kk_getR (pc := 95) hX (x := some 11) fl_X0_15_0 dX0_does_95 h.ro.k0 rfl h.ro.l0 ?_
  refine kk_iload_n (pc := 98) hX dX0_does_98 rfl ?_
  refine kk_aald (pc := 99) hX (x := some 21) 1 dX0_does_99 h.ro.k1 (by decide) rfl ⟨by omega, by omega⟩ (h.ro.dl 1 (by decide)) ?_
  refine kk_callUU (pc := 100) hX (owner := "BranchCells$Doer") (v_takes1 X.1 _ _ _ _ 21 (h.ro.dd 1 (by decide)).k0 (nI (m_tk 1)) (h.ro.dd 1 (by decide)).tk) dX0_does_100 (jj_wU q1025 q1027 q1039 q1026 q54 (lw_meth q1050)) rfl ⟨by decide +kernel, by decide +kernel, by show _ = some (0 : Nat); decide +kernel⟩ ⟨Nat.le_of_ble_eq_true rfl, Nat.le_of_ble_eq_true rfl, Nat.le_of_ble_eq_true rfl, Nat.le_of_ble_eq_true rfl, Nat.le_of_ble_eq_true rfl⟩ (fun q => by cases q) (h.ro.dd 1 (by decide)).k0 jc_3 rfl (jj_keq ?_) jj_kno
  by_cases hge : nI (m_tk 1) ≤ σ.1 32 t
  · refine kk_icmp_ge (pc := 103) hX 116 dX0_does_103 rfl (fun _ => ?_) (fun q => absurd hge q)
    refine kk_aload_n (pc := 116) hX dX0_does_116 rfl ?_
    refine kk_dup (pc := 117) hX dX0_does_117 rfl ?_
    refine kk_getI (pc := 118) hX fl_X0_328_29 dX0_does_118 hk.k.k0 rfl ?_
    refine kk_top ((σ.1 14) t) hk.v.pl ?_
    refine kk_iconst (pc := 121) hX (v := 1) dX0_does_121 (by decide) ?_
    refine kk_iadd (pc := 122) hX dX0_does_122 ?_
    refine kk_putI (pc := 123) hX fl_X0_328_29 dX0_does_123 hk.k.k0 rfl rfl ?_
    refine kk_aload_n (pc := 126) hX dX0_does_126 rfl ?_
    refine kk_getR (pc := 127) hX (x := some 11) fl_X0_15_0 dX0_does_127 h.ro.k0 rfl h.ro.l0 ?_
    refine kk_iload_n (pc := 130) hX dX0_does_130 rfl ?_
    refine kk_aald (pc := 131) hX (x := some 21) 1 dX0_does_131 h.ro.k1 (by decide) rfl ⟨by omega, by omega⟩ (h.ro.dl 1 (by decide)) ?_
    refine kk_aload_n (pc := 132) hX dX0_does_132 rfl ?_
    refine kk_iload_n (pc := 133) hX dX0_does_133 rfl ?_
    have h2 := at_pl h ht (σ.1 14 t + 1)
    by_cases hp : σ.1 32 t = 12
    · have hEE : m_fails t 7 (σ) = m_s5 t 1 (nI k) σ := by
        have z := st_bad3 (t := t) (j := 1) (a := (nI k)) (n := 0) (x := 0) (y := 0) (xh := 0) (σ := σ) (w := 7) (by rw [s2_0]; exact (if_pos hp)) (by decide)
        rw [s2_0] at z
        exact z.trans (st_0 rfl hge).symm
      have hst3 : σe.1 15 t = 3 := by rw [← hEE.trans hE]; exact m_fails_15
      refine kk_callU (pc := 134) hX (owner := "BranchCells$Doer") (v_do1X X.1 _ _ _ _ h2 hv ht h0 k hc hp q hq7 hq9) dX0_does_134 (lw_meth q1188) ⟨q1051, q1053, q1186, q1187, q56, jj_inT q1052 rfl⟩ ⟨by decide +kernel, by decide +kernel, by show _ = some (2 : Nat); decide +kernel⟩ ⟨Nat.le_of_ble_eq_true rfl, Nat.le_of_ble_eq_true rfl, Nat.le_trans (by decide) (cost_f hst3 hmc), Nat.le_trans (by decide) (cost_f hst3 hms), Nat.le_of_ble_eq_true rfl⟩ (fun _ => hFr) (h.ro.dd 1 (by decide)).k0 jc_3 rfl jj_knp (fun a9 τ3 I3 L3 r3 hP => ?_)
      obtain ⟨rfl, hw9, h3⟩ := hP
      have e11 : (σ).1 0 11 = σ.1 0 11 := rfl
      exact v_catch hX hr hT (σF := σ) (Eq.trans hEE hE) hi (by rw [e11]; exact ht) h0 h3 ((fun _ => rfl) t).symm (fun u hu => (if_neg hu).trans ((fun _ => rfl) u).symm) hw9 ⟨Nat.le_trans (by decide) (cost_f hst3 hmc), Nat.le_trans (by decide) (cost_f hst3 hms)⟩ ⟨by decide, by decide⟩
    · have hp2 := lt12 hp9 hp
      refine kk_callU (pc := 134) hX (owner := "BranchCells$Doer") (v_do1 X.1 _ _ _ _ h2 hv ht h0 k hc hp2) dX0_does_134 (lw_meth q1188) ⟨q1051, q1053, q1186, q1187, q56, jj_inT q1052 rfl⟩ ⟨by decide +kernel, by decide +kernel, by show _ = some (2 : Nat); decide +kernel⟩ ⟨Nat.le_of_ble_eq_true rfl, Nat.le_of_ble_eq_true rfl, Nat.zero_le _, Nat.zero_le _, Nat.le_of_ble_eq_true rfl⟩ (fun q => by cases q) (h.ro.dd 1 (by decide)).k0 jc_3 rfl (fun _ _ I3 L3 r3 hP => ?_) jj_kno
      obtain ⟨rfl, rfl, h3⟩ := hP
      refine kk_goto (pc := 137) hX 164 dX0_does_137 rfl ?_
      refine kk_lss [(1, jR (some (β + 5000 + 20 * t)))] ⟨rfl, trivial⟩ ?_
      have e11 : (m_push t (m_rd k σ 170 (σ.1 22 t)) 0 σ).1 0 11 = σ.1 0 11 := rfl
      have hEE : m_eb t (m_u (m_push t (m_rd k σ 170 (σ.1 22 t)) 0 σ) 14 t (σ.1 14 t + 1)) = m_s5 t 1 (nI k) σ := Eq.trans (st_ok3 (t := t) (j := 1) (a := (nI k)) (n := 0) (x := 0) (y := 0) (xh := 0) (σ := σ) (by rw [s2_0]; show (if σ.1 32 t = 12 then (7 : Int32) else 0) ≤ 0; rw [if_neg hp]; decide) (by rw [s2_0]; show m_push t (m_rd (nv (nI k)) σ 170 (σ.1 22 t)) 0 σ = _; rw [hkv]) (by rw [s2_0]; rfl) (fun z => absurd (h0.symm.trans z) (by decide))) (st_0 rfl hge).symm
      exact v_fin hX hr (σ9 := m_u (m_push t (m_rd k σ 170 (σ.1 22 t)) 0 σ) 14 t (σ.1 14 t + 1)) (Eq.trans hEE hE) hi (by rw [mu_n (Or.inl (by decide)), e11]; exact ht) (at_14 h3 (by rw [e11]; exact ht) (σ.1 14 t + 1)) (fun u _ => hpl_ok (fun _ => rfl) u) ⟨Nat.zero_le _, Nat.zero_le _⟩
  · have hEE := st_few (a := (nI k)) hge
    have hst3 : σe.1 15 t = 3 := by rw [← hEE.trans hE]; exact m_fails_15
    refine kk_icmp_ge (pc := 103) hX 116 dX0_does_103 rfl (fun q => absurd q hge) (fun _ => ?_)
    refine kk_new (pc := 106) hX q ⟨hq7.1, hq7.2⟩ hFr dX0_does_106 jc_32 q961 q963 q95 (by decide) ⟨Nat.le_trans (by decide) (cost_f hst3 hmc), Nat.le_trans (by decide) (cost_f hst3 hms)⟩ ?_
    refine kk_dup (pc := 109) hX dX0_does_109 rfl ?_
    refine kk_bipush (pc := 110) hX (v := 8) dX0_does_110 (by decide) ?_
    refine kk_callI (pc := 112) hX (v_Fi X.1 _ _ _ _ q jj_ts 8) dX0_does_112 (lw_meth q1001) ⟨q999, q1000, q95, rfl⟩ ⟨by decide +kernel, by decide +kernel, by show _ = some (1 : Nat); decide +kernel⟩ ⟨Nat.le_of_ble_eq_true rfl, Nat.le_of_ble_eq_true rfl, Nat.le_trans (by decide) (cost_f hst3 hmc), Nat.le_trans (by decide) (cost_f hst3 hms), Nat.le_of_ble_eq_true rfl⟩ (fun q => by cases q) rfl (jj_keq ?_) jj_kno
    refine kk_athrow (pc := 115) hX dX0_does_115 jj_ts ?_
    exact v_catch hX hr hT (hEE.trans hE) hi ht h0 (cr_rel.gar h hq7.1 hq9 (fun b hb => jj_tn hb) (fun b hb => (jj_ua hb).trans (jj_zn hb)) (fun b hb => jj_zn hb) (fun b hb => (jj_ua hb).trans ((jj_ua hb).trans ((jj_ua hb).trans ((jj_ua hb).trans ((jj_ua hb).trans ((jj_ua hb).trans ((jj_ua hb).trans (jj_zn hb))))))))) rfl (fun _ _ => rfl) jj_us ⟨Nat.le_trans (by decide) (cost_f hst3 hmc), Nat.le_trans (by decide) (cost_f hst3 hms)⟩ ⟨by decide, by decide⟩

theorem v_d12 {X : jj_X} {o : jj_T} {mc ms : Nat} (hX : kk_ok X cX0_does "BranchCells" 6 10 245 mc ms) (hr : jj_Ret X none) {τ : jj_T} {I : jj_I} {L : jj_L} {r : jj_R} {β : Nat} {ss : List Nat} {e N : Nat → Nat} {ρ : jm} (hT : jj_Tbl X (tableOf [((67 : Nat), (137 : Nat), (140 : Nat), (9 : Nat))])) (hFr : jj_Fr X) {t : Nat} {σ σe : jm} (h : cr_rel β ss e N ρ (σ.1 14) σ τ I L r) (hv : m_inv σ) (ht : t < nv (σ.1 0 11)) (h0 : σ.1 15 t = 0) (k : Nat) (hc : k ≤ 40) (hE : m_s5 t 12 (nI k) σ = σe) (hi : m_inv σe) (hmc : 20 * (nv (σe.1 0 11) - nv (σ.1 0 11)) + 2 * (if σe.1 15 t = 0 then 0 else 1) ≤ mc) (hms : 1000 * (nv (σe.1 0 11) - nv (σ.1 0 11)) + 20 * (if σe.1 15 t = 0 then 0 else 1) ≤ ms) : kk_J X o (kk_End X o (fun v' τ' I' L' r' => v' = none ∧ ∃ ss' e' N', cr_rel β ss' e' N' ρ (σe.1 14) σe τ' I' L' r') jj_no mc ms) 0 0 87 [(0, jR (some 10)), (1, jR (some (β + 5000 + 20 * t))), (2, jI 12), (3, jI (nI k)), (4, jI (σ.1 14 t))] [] τ I L r := by
  have hk := h.tk t ht
  have hp9 := (hv.tk t ht).po.1
  have hT9 := hv.T
  have hkv : nv (nI k) = k := nv_nI (by omega)
  refine kk_free (β + 10000) (fun q hq9 hq7f hqf => ?_)
  have hq7 : τ q = none ∧ ¬ (1 ≤ q ∧ q ≤ 6) := ⟨hqf q (Nat.le_refl _), by omega⟩
  refine kk_aload_n (pc := 87) hX dX0_does_87 rfl ?_
  refine kk_getR (pc := 88) hX (x := some (β + 5000 + 20 * t + 7)) fl_X0_253_29 dX0_does_88 hk.k.k0 rfl hk.l.pi ?_
  refine kk_getI (pc := 91) hX fl_X0_334_31 dX0_does_91 hk.k.k7 rfl ?_
  refine kk_top (σ.1 32 t) hk.v.ps ?_
  refine kk_aload_n (pc := 94) hX dX0_does_94 rfl ?_
  refine kk_getR (pc := 95) hX (x := some 11) fl_X0_15_0 dX0_does_95 h.ro.k0 rfl h.ro.l0 ?_
  refine kk_iload_n (pc := 98) hX dX0_does_98 rfl ?_
  refine kk_aald (pc := 99) hX (x := some 32) 12 dX0_does_99 h.ro.k1 (by decide) rfl ⟨by omega, by omega⟩ (h.ro.dl 12 (by decide)) ?_
  refine kk_callUU (pc := 100) hX (owner := "BranchCells$Doer") (v_takes12 X.1 _ _ _ _ 32 (h.ro.dd 12 (by decide)).k0 (nI (m_tk 12)) (h.ro.dd 12 (by decide)).tk) dX0_does_100 (jj_wU q1025 q1027 q1032 q1026 q54 (lw_meth q1050)) rfl ⟨by decide +kernel, by decide +kernel, by show _ = some (0 : Nat); decide +kernel⟩ ⟨Nat.le_of_ble_eq_true rfl, Nat.le_of_ble_eq_true rfl, Nat.le_of_ble_eq_true rfl, Nat.le_of_ble_eq_true rfl, Nat.le_of_ble_eq_true rfl⟩ (fun q => by cases q) (h.ro.dd 12 (by decide)).k0 jc_15 rfl (jj_keq ?_) jj_kno
  by_cases hge : nI (m_tk 12) ≤ σ.1 32 t
  · refine kk_icmp_ge (pc := 103) hX 116 dX0_does_103 rfl (fun _ => ?_) (fun q => absurd hge q)
    refine kk_aload_n (pc := 116) hX dX0_does_116 rfl ?_
    refine kk_dup (pc := 117) hX dX0_does_117 rfl ?_
    refine kk_getI (pc := 118) hX fl_X0_328_29 dX0_does_118 hk.k.k0 rfl ?_
    refine kk_top ((σ.1 14) t) hk.v.pl ?_
    refine kk_iconst (pc := 121) hX (v := 1) dX0_does_121 (by decide) ?_
    refine kk_iadd (pc := 122) hX dX0_does_122 ?_
    refine kk_putI (pc := 123) hX fl_X0_328_29 dX0_does_123 hk.k.k0 rfl rfl ?_
    refine kk_aload_n (pc := 126) hX dX0_does_126 rfl ?_
    refine kk_getR (pc := 127) hX (x := some 11) fl_X0_15_0 dX0_does_127 h.ro.k0 rfl h.ro.l0 ?_
    refine kk_iload_n (pc := 130) hX dX0_does_130 rfl ?_
    refine kk_aald (pc := 131) hX (x := some 32) 12 dX0_does_131 h.ro.k1 (by decide) rfl ⟨by omega, by omega⟩ (h.ro.dl 12 (by decide)) ?_
    refine kk_aload_n (pc := 132) hX dX0_does_132 rfl ?_
    refine kk_iload_n (pc := 133) hX dX0_does_133 rfl ?_
    have h2 := at_pl h ht (σ.1 14 t + 1)
    refine kk_callU (pc := 134) hX (owner := "BranchCells$Doer") (v_do12 X.1 _ _ _ _ h2 hv ht h0 k) dX0_does_134 (lw_meth q1117) ⟨q1051, q1053, q1115, q1116, q68, jj_inT q1052 rfl⟩ ⟨by decide +kernel, by decide +kernel, by show _ = some (2 : Nat); decide +kernel⟩ ⟨Nat.le_of_ble_eq_true rfl, Nat.le_of_ble_eq_true rfl, Nat.zero_le _, Nat.zero_le _, Nat.le_of_ble_eq_true rfl⟩ (fun q => by cases q) (h.ro.dd 12 (by decide)).k0 jc_15 rfl (fun _ _ I3 L3 r3 hP => ?_) jj_kno
    obtain ⟨rfl, rfl, h3⟩ := hP
    refine kk_goto (pc := 137) hX 164 dX0_does_137 rfl ?_
    refine kk_lss [(1, jR (some (β + 5000 + 20 * t)))] ⟨rfl, trivial⟩ ?_
    have e11 : (σ).1 0 11 = σ.1 0 11 := rfl
    have hEE : m_eb t (m_u (σ) 14 t (nI k)) = m_s5 t 12 (nI k) σ := Eq.trans (st_ok3 (t := t) (j := 12) (a := (nI k)) (n := 0) (x := 0) (y := 0) (xh := 0) (σ := σ) (by rw [s2_0]; show (0 : Int32) ≤ 0; decide) (by rw [s2_0]; rfl) (by rw [s2_0]; rfl) (fun z => absurd (h0.symm.trans z) (by decide))) (st_0 rfl hge).symm
    exact v_fin hX hr (σ9 := m_u (σ) 14 t (nI k)) (Eq.trans hEE hE) hi (by rw [mu_n (Or.inl (by decide)), e11]; exact ht) (at_14 h3 (by rw [e11]; exact ht) (nI k)) (fun u _ => hpl_ok (fun _ => rfl) u) ⟨Nat.zero_le _, Nat.zero_le _⟩
  · have hEE := st_few (a := (nI k)) hge
    have hst3 : σe.1 15 t = 3 := by rw [← hEE.trans hE]; exact m_fails_15
    refine kk_icmp_ge (pc := 103) hX 116 dX0_does_103 rfl (fun q => absurd q hge) (fun _ => ?_)
    refine kk_new (pc := 106) hX q ⟨hq7.1, hq7.2⟩ hFr dX0_does_106 jc_32 q961 q963 q95 (by decide) ⟨Nat.le_trans (by decide) (cost_f hst3 hmc), Nat.le_trans (by decide) (cost_f hst3 hms)⟩ ?_
    refine kk_dup (pc := 109) hX dX0_does_109 rfl ?_
    refine kk_bipush (pc := 110) hX (v := 8) dX0_does_110 (by decide) ?_
    refine kk_callI (pc := 112) hX (v_Fi X.1 _ _ _ _ q jj_ts 8) dX0_does_112 (lw_meth q1001) ⟨q999, q1000, q95, rfl⟩ ⟨by decide +kernel, by decide +kernel, by show _ = some (1 : Nat); decide +kernel⟩ ⟨Nat.le_of_ble_eq_true rfl, Nat.le_of_ble_eq_true rfl, Nat.le_trans (by decide) (cost_f hst3 hmc), Nat.le_trans (by decide) (cost_f hst3 hms), Nat.le_of_ble_eq_true rfl⟩ (fun q => by cases q) rfl (jj_keq ?_) jj_kno
    refine kk_athrow (pc := 115) hX dX0_does_115 jj_ts ?_
    exact v_catch hX hr hT (hEE.trans hE) hi ht h0 (cr_rel.gar h hq7.1 hq9 (fun b hb => jj_tn hb) (fun b hb => (jj_ua hb).trans (jj_zn hb)) (fun b hb => jj_zn hb) (fun b hb => (jj_ua hb).trans ((jj_ua hb).trans ((jj_ua hb).trans ((jj_ua hb).trans ((jj_ua hb).trans ((jj_ua hb).trans ((jj_ua hb).trans (jj_zn hb))))))))) rfl (fun _ _ => rfl) jj_us ⟨Nat.le_trans (by decide) (cost_f hst3 hmc), Nat.le_trans (by decide) (cost_f hst3 hms)⟩ ⟨by decide, by decide⟩

theorem v_d14 {X : jj_X} {o : jj_T} {mc ms : Nat} (hX : kk_ok X cX0_does "BranchCells" 6 10 245 mc ms) (hr : jj_Ret X none) {τ : jj_T} {I : jj_I} {L : jj_L} {r : jj_R} {β : Nat} {ss : List Nat} {e N : Nat → Nat} {ρ : jm} (hT : jj_Tbl X (tableOf [((67 : Nat), (137 : Nat), (140 : Nat), (9 : Nat))])) (hFr : jj_Fr X) {t : Nat} {σ σe : jm} (h : cr_rel β ss e N ρ (σ.1 14) σ τ I L r) (hv : m_inv σ) (ht : t < nv (σ.1 0 11)) (h0 : σ.1 15 t = 0) (k : Nat) (hc : k < 8) (hE : m_s5 t 14 (nI k) σ = σe) (hi : m_inv σe) (hmc : 20 * (nv (σe.1 0 11) - nv (σ.1 0 11)) + 2 * (if σe.1 15 t = 0 then 0 else 1) ≤ mc) (hms : 1000 * (nv (σe.1 0 11) - nv (σ.1 0 11)) + 20 * (if σe.1 15 t = 0 then 0 else 1) ≤ ms) : kk_J X o (kk_End X o (fun v' τ' I' L' r' => v' = none ∧ ∃ ss' e' N', cr_rel β ss' e' N' ρ (σe.1 14) σe τ' I' L' r') jj_no mc ms) 0 0 87 [(0, jR (some 10)), (1, jR (some (β + 5000 + 20 * t))), (2, jI 14), (3, jI (nI k)), (4, jI (σ.1 14 t))] [] τ I L r := by
  have hk := h.tk t ht
  have hp9 := (hv.tk t ht).po.1
  have hT9 := hv.T
  have hkv : nv (nI k) = k := nv_nI (by omega)
  refine kk_free (β + 10000) (fun q hq9 hq7f hqf => ?_)
  have hq7 : τ q = none ∧ ¬ (1 ≤ q ∧ q ≤ 6) := ⟨hqf q (Nat.le_refl _), by omega⟩
  refine kk_aload_n (pc := 87) hX dX0_does_87 rfl ?_
  refine kk_getR (pc := 88) hX (x := some (β + 5000 + 20 * t + 7)) fl_X0_253_29 dX0_does_88 hk.k.k0 rfl hk.l.pi ?_
  refine kk_getI (pc := 91) hX fl_X0_334_31 dX0_does_91 hk.k.k7 rfl ?_
  refine kk_top (σ.1 32 t) hk.v.ps ?_
  refine kk_aload_n (pc := 94) hX dX0_does_94 rfl ?_
  refine kk_getR (pc := 95) hX (x := some 11) fl_X0_15_0 dX0_does_95 h.ro.k0 rfl h.ro.l0 ?_
  refine kk_iload_n (pc := 98) hX dX0_does_98 rfl ?_
  refine kk_aald (pc := 99) hX (x := some 34) 14 dX0_does_99 h.ro.k1 (by decide) rfl ⟨by omega, by omega⟩ (h.ro.dl 14 (by decide)) ?_
  refine kk_callUU (pc := 100) hX (owner := "BranchCells$Doer") (v_takes14 X.1 _ _ _ _ 34 (h.ro.dd 14 (by decide)).k0 (nI (m_tk 14)) (h.ro.dd 14 (by decide)).tk) dX0_does_100 (jj_wU q1025 q1027 q1034 q1026 q54 (lw_meth q1050)) rfl ⟨by decide +kernel, by decide +kernel, by show _ = some (0 : Nat); decide +kernel⟩ ⟨Nat.le_of_ble_eq_true rfl, Nat.le_of_ble_eq_true rfl, Nat.le_of_ble_eq_true rfl, Nat.le_of_ble_eq_true rfl, Nat.le_of_ble_eq_true rfl⟩ (fun q => by cases q) (h.ro.dd 14 (by decide)).k0 jc_17 rfl (jj_keq ?_) jj_kno
  by_cases hge : nI (m_tk 14) ≤ σ.1 32 t
  · refine kk_icmp_ge (pc := 103) hX 116 dX0_does_103 rfl (fun _ => ?_) (fun q => absurd hge q)
    refine kk_aload_n (pc := 116) hX dX0_does_116 rfl ?_
    refine kk_dup (pc := 117) hX dX0_does_117 rfl ?_
    refine kk_getI (pc := 118) hX fl_X0_328_29 dX0_does_118 hk.k.k0 rfl ?_
    refine kk_top ((σ.1 14) t) hk.v.pl ?_
    refine kk_iconst (pc := 121) hX (v := 1) dX0_does_121 (by decide) ?_
    refine kk_iadd (pc := 122) hX dX0_does_122 ?_
    refine kk_putI (pc := 123) hX fl_X0_328_29 dX0_does_123 hk.k.k0 rfl rfl ?_
    refine kk_aload_n (pc := 126) hX dX0_does_126 rfl ?_
    refine kk_getR (pc := 127) hX (x := some 11) fl_X0_15_0 dX0_does_127 h.ro.k0 rfl h.ro.l0 ?_
    refine kk_iload_n (pc := 130) hX dX0_does_130 rfl ?_
    refine kk_aald (pc := 131) hX (x := some 34) 14 dX0_does_131 h.ro.k1 (by decide) rfl ⟨by omega, by omega⟩ (h.ro.dl 14 (by decide)) ?_
    refine kk_aload_n (pc := 132) hX dX0_does_132 rfl ?_
    refine kk_iload_n (pc := 133) hX dX0_does_133 rfl ?_
    have h2 := at_pl h ht (σ.1 14 t + 1)
    by_cases hp : σ.1 32 t = 12
    · have hEE : m_fails t 7 (σ) = m_s5 t 14 (nI k) σ := by
        have z := st_bad3 (t := t) (j := 14) (a := (nI k)) (n := 0) (x := 0) (y := 0) (xh := 0) (σ := σ) (w := 7) (by rw [s2_0]; exact (if_pos hp)) (by decide)
        rw [s2_0] at z
        exact z.trans (st_0 rfl hge).symm
      have hst3 : σe.1 15 t = 3 := by rw [← hEE.trans hE]; exact m_fails_15
      refine kk_callU (pc := 134) hX (owner := "BranchCells$Doer") (v_do14X X.1 _ _ _ _ h2 hv ht h0 k hc hp q hq7 hq9) dX0_does_134 (lw_meth q1129) ⟨q1051, q1053, q1127, q1128, q70, jj_inT q1052 rfl⟩ ⟨by decide +kernel, by decide +kernel, by show _ = some (2 : Nat); decide +kernel⟩ ⟨Nat.le_of_ble_eq_true rfl, Nat.le_of_ble_eq_true rfl, Nat.le_trans (by decide) (cost_f hst3 hmc), Nat.le_trans (by decide) (cost_f hst3 hms), Nat.le_of_ble_eq_true rfl⟩ (fun _ => hFr) (h.ro.dd 14 (by decide)).k0 jc_17 rfl jj_knp (fun a9 τ3 I3 L3 r3 hP => ?_)
      obtain ⟨rfl, hw9, h3⟩ := hP
      have e11 : (σ).1 0 11 = σ.1 0 11 := rfl
      exact v_catch hX hr hT (σF := σ) (Eq.trans hEE hE) hi (by rw [e11]; exact ht) h0 h3 ((fun _ => rfl) t).symm (fun u hu => (if_neg hu).trans ((fun _ => rfl) u).symm) hw9 ⟨Nat.le_trans (by decide) (cost_f hst3 hmc), Nat.le_trans (by decide) (cost_f hst3 hms)⟩ ⟨by decide, by decide⟩
    · have hp2 := lt12 hp9 hp
      refine kk_callU (pc := 134) hX (owner := "BranchCells$Doer") (v_do14 X.1 _ _ _ _ h2 hv ht h0 k hc hp2) dX0_does_134 (lw_meth q1129) ⟨q1051, q1053, q1127, q1128, q70, jj_inT q1052 rfl⟩ ⟨by decide +kernel, by decide +kernel, by show _ = some (2 : Nat); decide +kernel⟩ ⟨Nat.le_of_ble_eq_true rfl, Nat.le_of_ble_eq_true rfl, Nat.zero_le _, Nat.zero_le _, Nat.le_of_ble_eq_true rfl⟩ (fun q => by cases q) (h.ro.dd 14 (by decide)).k0 jc_17 rfl (fun _ _ I3 L3 r3 hP => ?_) jj_kno
      obtain ⟨rfl, rfl, h3⟩ := hP
      refine kk_goto (pc := 137) hX 164 dX0_does_137 rfl ?_
      refine kk_lss [(1, jR (some (β + 5000 + 20 * t)))] ⟨rfl, trivial⟩ ?_
      have e11 : (m_d14 t k σ).1 0 11 = σ.1 0 11 := (d14_o (by decide))
      have hEE : m_eb t (m_u (m_d14 t k σ) 14 t (σ.1 14 t + 1)) = m_s5 t 14 (nI k) σ := Eq.trans (st_ok3 (t := t) (j := 14) (a := (nI k)) (n := 0) (x := 0) (y := 0) (xh := 0) (σ := σ) (by rw [s2_0]; show (if σ.1 32 t = 12 then (7 : Int32) else 0) ≤ 0; rw [if_neg hp]; decide) (by rw [s2_0]; show m_d14 t (nv (nI k)) σ = _; rw [hkv]) (by rw [s2_0]; rfl) (fun z => absurd (h0.symm.trans ((d14_o (by decide)).symm.trans z)) (by decide))) (st_0 rfl hge).symm
      exact v_fin hX hr (σ9 := m_u (m_d14 t k σ) 14 t (σ.1 14 t + 1)) (Eq.trans hEE hE) hi (by rw [mu_n (Or.inl (by decide)), e11]; exact ht) (at_14 h3 (by rw [e11]; exact ht) (σ.1 14 t + 1)) (fun u _ => hpl_ok (fun _ => d14_o (by decide)) u) ⟨Nat.zero_le _, Nat.zero_le _⟩
  · have hEE := st_few (a := (nI k)) hge
    have hst3 : σe.1 15 t = 3 := by rw [← hEE.trans hE]; exact m_fails_15
    refine kk_icmp_ge (pc := 103) hX 116 dX0_does_103 rfl (fun q => absurd q hge) (fun _ => ?_)
    refine kk_new (pc := 106) hX q ⟨hq7.1, hq7.2⟩ hFr dX0_does_106 jc_32 q961 q963 q95 (by decide) ⟨Nat.le_trans (by decide) (cost_f hst3 hmc), Nat.le_trans (by decide) (cost_f hst3 hms)⟩ ?_
    refine kk_dup (pc := 109) hX dX0_does_109 rfl ?_
    refine kk_bipush (pc := 110) hX (v := 8) dX0_does_110 (by decide) ?_
    refine kk_callI (pc := 112) hX (v_Fi X.1 _ _ _ _ q jj_ts 8) dX0_does_112 (lw_meth q1001) ⟨q999, q1000, q95, rfl⟩ ⟨by decide +kernel, by decide +kernel, by show _ = some (1 : Nat); decide +kernel⟩ ⟨Nat.le_of_ble_eq_true rfl, Nat.le_of_ble_eq_true rfl, Nat.le_trans (by decide) (cost_f hst3 hmc), Nat.le_trans (by decide) (cost_f hst3 hms), Nat.le_of_ble_eq_true rfl⟩ (fun q => by cases q) rfl (jj_keq ?_) jj_kno
    refine kk_athrow (pc := 115) hX dX0_does_115 jj_ts ?_
    exact v_catch hX hr hT (hEE.trans hE) hi ht h0 (cr_rel.gar h hq7.1 hq9 (fun b hb => jj_tn hb) (fun b hb => (jj_ua hb).trans (jj_zn hb)) (fun b hb => jj_zn hb) (fun b hb => (jj_ua hb).trans ((jj_ua hb).trans ((jj_ua hb).trans ((jj_ua hb).trans ((jj_ua hb).trans ((jj_ua hb).trans ((jj_ua hb).trans (jj_zn hb))))))))) rfl (fun _ _ => rfl) jj_us ⟨Nat.le_trans (by decide) (cost_f hst3 hmc), Nat.le_trans (by decide) (cost_f hst3 hms)⟩ ⟨by decide, by decide⟩
