set_option maxRecDepth 100000
theorem pw_len : ∀ (l : List Nat) (a b : Nat), a ≤ b → l.Pairwise (· < ·) → (∀ x, x ∈ l → a ≤ x ∧ x < b) → l.length + a ≤ b := by
  intro l
  induction l with
  | nil => intro a b h _ _; simpa using h
  | cons x t ih =>
    intro a b h hp hx
    rw [List.pairwise_cons] at hp
    have h1 := hx x List.mem_cons_self
    have h2 := ih (x + 1) b (by omega) hp.2 (fun y hy => ⟨hp.1 y hy, (hx y (List.mem_cons_of_mem _ hy)).2⟩)
    rw [List.length_cons]
    omega
theorem cr_ss.len {σ : jm} {ss : List Nat} (h : cr_ss σ ss) : ss.length ≤ nv (σ.1 0 36) := by
  have := pw_len ss 0 (nv (σ.1 0 36)) (Nat.zero_le _) h.so (fun x hx => ⟨Nat.zero_le _, h.lt x hx⟩)
  omega
theorem m_ns_t {b : Int32} {σ : jm} {k j : Nat} (h : k ≠ 0 ∧ k ≠ 38 ∧ k ≠ 39) : (m_ns b σ).1 k j = σ.1 k j := m_ns_o (by omega)
theorem m_ns_11 {b : Int32} {σ : jm} {j : Nat} (h : j ≠ 36) : (m_ns b σ).1 0 j = σ.1 0 j := m_ns_o (by omega)
theorem m_uc {σ : jm} {k j k' j' : Nat} {v v' : Int32} (h : k ≠ k' ∨ j ≠ j') : m_u (m_u σ k j v) k' j' v' = m_u (m_u σ k' j' v') k j v := by
  refine Prod.ext (funext fun a => funext fun b => ?_) rfl
  show jj_u (jj_u σ.1 k j v) k' j' v' a b = jj_u (jj_u σ.1 k' j' v') k j v a b
  unfold jj_u
  by_cases h1 : a = k ∧ b = j
  · rw [if_pos h1, if_neg (by omega), if_pos h1]
  · rw [if_neg h1]
    by_cases h2 : a = k' ∧ b = j'
    · rw [if_pos h2, if_neg h1]
    · rw [if_neg h2, if_neg h1]
theorem m_cl_c {S k j : Nat} {v : Int32} (h : k ≠ 39) : ∀ (n c : Nat) (σ : jm), m_cl S n c (m_u σ k j v) = m_u (m_cl S n c σ) k j v
  | 0, _, _ => rfl
  | n + 1, c, σ => by
    unfold m_cl
    rw [m_uc (Or.inl h), m_cl_c h n (c + 1)]
theorem m_ns_c {b : Int32} {σ : jm} {k j : Nat} {v : Int32} (h : k ≠ 0 ∧ k ≠ 38 ∧ k ≠ 39) : m_ns b (m_u σ k j v) = m_u (m_ns b σ) k j v := by
  unfold m_ns
  have e : (m_u σ k j v).1 0 36 = σ.1 0 36 := mu_n (by omega)
  rw [e, m_uc (Or.inl h.2.1), m_cl_c h.2.2, m_uc (Or.inl h.1)]
theorem fk_eq {t : Nat} {σ : jm} : m_u (m_u (m_ns (σ.1 22 t) σ) 22 t (σ.1 0 36)) 18 t (σ.1 18 t + 1) = m_f1 t σ := by
  unfold m_f1
  rw [m_uc (Or.inl (by decide)), m_ns_c (by decide)]
theorem m_f1_36 {t : Nat} {σ : jm} : (m_f1 t σ).1 0 36 = σ.1 0 36 + 1 := by
  unfold m_f1
  rw [mu_n (Or.inl (by decide)), m_ns_36, mu_n (Or.inl (by decide))]
theorem m_f1_11 {t : Nat} {σ : jm} {j : Nat} (h : j ≠ 36) : (m_f1 t σ).1 0 j = σ.1 0 j := by
  unfold m_f1
  rw [mu_n (Or.inl (by decide)), m_ns_11 h, mu_n (Or.inl (by decide))]
theorem m_f1_o {t : Nat} {σ : jm} {k j : Nat} (h : k ≠ 0 ∧ k ≠ 38 ∧ k ≠ 39 ∧ k ≠ 22 ∧ k ≠ 18) : (m_f1 t σ).1 k j = σ.1 k j := by
  unfold m_f1
  rw [mu_n (by omega), m_ns_t (by omega), mu_n (by omega)]
theorem m_f1_18 {t : Nat} {σ : jm} : (m_f1 t σ).1 18 t = σ.1 18 t + 1 := by
  unfold m_f1
  rw [mu_n (Or.inl (by decide)), m_ns_t (by decide), mu_s]
theorem m_eb_o {t : Nat} {σ : jm} {k j : Nat} (h : j ≠ t) : (m_eb t σ).1 k j = σ.1 k j ∧ (m_eb t σ).2 k j = σ.2 k j := by
  unfold m_eb
  split
  · split
    · exact ⟨rfl, rfl⟩
    · unfold m_ends
      exact ⟨by rw [mu_n (by omega), mv_1, mu_n (by omega), mu_n (by omega)], by rw [mu_2, mv_n (by omega)]; rfl⟩
  · exact ⟨rfl, rfl⟩
theorem m_eb_k {t : Nat} {σ : jm} {k j : Nat} (h : k ≠ 15 ∧ k ≠ 25 ∧ k ≠ 27) : (m_eb t σ).1 k j = σ.1 k j := by
  unfold m_eb
  split
  · split
    · rfl
    · unfold m_ends
      rw [mu_n (by omega), mv_1, mu_n (by omega), mu_n (by omega)]
  · rfl
theorem hr_o {β : Nat} {σ : jm} {v : Int64} {g : Int32} (hT : nv (σ.1 0 11) ≤ 40) (h : ¬ g = 0 → m_hv σ v) : ∀ w, cr_hr β g v = some w → ∃ o, o < nv (σ.1 0 11) ∧ w = β + 5000 + 20 * o := by
  intro w hw
  unfold cr_hr at hw
  by_cases hg : g = 0
  · rw [if_pos hg] at hw; cases hw
  · rw [if_neg hg] at hw
    cases hw
    exact ⟨_, ((h hg).nv hT).2.1, rfl⟩
theorem v_cforkXA (G : jj_G) (τ : jj_T) (I : jj_I) (L : jj_L) (r : jj_R) {β : Nat} {ss : List Nat} {e N : Nat → Nat} {ρ : jm} {pl : Nat → Int32} {σ : jm} (h : cr_rel β ss e N ρ pl σ τ I L r) {t : Nat} (ht : t < nv (σ.1 0 11)) (ob : Nat) (ho1 : nv (σ.1 0 0) ≤ ob) (ho2 : ob < 100) (y : Int64) (x : Option Nat) (q : Nat) (hq7 : τ q = none ∧ ¬ (1 ≤ q ∧ q ≤ 6)) (hq9 : β + 10000 ≤ q) : kk_M G yX0_forks (ws_ yX0_forks cX0_forks 7 (some (.object "BranchCells$Task"))) { frames := 8, cells := 1, slots := 7, locals := 193 } [jR (some 10), jR (some (β + 5000 + 20 * t)), jI (nI ob), jL y, jR x] true τ I L r jj_noP (fun a τ' I' L' r' => a = q ∧ I' q 6 = 10 ∧ cr_rel β ss e N ρ pl σ τ' I' L' r') := by
  refine kk_intro "BranchCells" (by decide) rfl (Nat.le_of_ble_eq_true rfl) ?_
  intro X hG hX hr hN hC hF hAd
  have hk := h.tk t ht
  have h9 := h.bd
  have hbe := h.e.be
  have hlb := h.lb.le
  have hlb2 := h.lb.lt
  have hlen := h.ss.len
  refine kk_iload_n (pc := 0) hX dX0_forks_0 rfl ?_
  refine kk_aload_n (pc := 1) hX dX0_forks_1 rfl ?_
  refine kk_getR (pc := 2) hX (x := some 13) fl_X0_99_0 dX0_forks_2 h.ro.k0 rfl h.ro.l1 ?_
  refine kk_callF (pc := 5) hX (v_size X.1 _ _ _ _ 13 h.lb.k0) dX0_forks_5 (lw_app (jj_wf q473 q477 q479 q53) (lw_meth q481)) (by decide +kernel) ⟨by decide +kernel, by decide +kernel, by show _ = some (0 : Nat); decide +kernel⟩ ⟨Nat.le_of_ble_eq_true rfl, Nat.le_of_ble_eq_true rfl, Nat.le_of_ble_eq_true rfl, Nat.le_of_ble_eq_true rfl, Nat.le_of_ble_eq_true rfl⟩ (fun q => by cases q) h.lb.k0 jc_33 rfl (jj_keq ?_) jj_kno
  refine kk_top (nI (nv (σ.1 0 0))) h.lb.sz ?_
  refine kk_icmp_lt (pc := 10) hX 23 dX0_forks_10 rfl (fun q => absurd q (nI_nlt ho1 (by omega))) (fun _ => ?_)
  refine kk_new (pc := 13) hX q ⟨hq7.1, hq7.2⟩ (hF rfl) dX0_forks_13 jc_32 q961 q963 q95 (by decide) ⟨Nat.le_of_ble_eq_true rfl, Nat.le_of_ble_eq_true rfl⟩ ?_
  refine kk_dup (pc := 16) hX dX0_forks_16 rfl ?_
  refine kk_bipush (pc := 17) hX (v := 10) dX0_forks_17 (by decide) ?_
  refine kk_callI (pc := 19) hX (v_Fi X.1 _ _ _ _ q jj_ts 10) dX0_forks_19 (lw_meth q1001) ⟨q999, q1000, q95, rfl⟩ ⟨by decide +kernel, by decide +kernel, by show _ = some (1 : Nat); decide +kernel⟩ ⟨Nat.le_of_ble_eq_true rfl, Nat.le_of_ble_eq_true rfl, Nat.le_of_ble_eq_true rfl, Nat.le_of_ble_eq_true rfl, Nat.le_of_ble_eq_true rfl⟩ (fun q => by cases q) rfl (jj_keq ?_) jj_kno
  refine kk_athrow (pc := 22) hX dX0_forks_22 jj_ts ?_
  exact kk_out (pc := 22) hX hN ⟨Nat.le_refl _, Nat.le_refl _⟩ (⟨rfl, jj_us, (cr_rel.gar h hq7.1 hq9 (fun b hb => jj_tn hb) (fun b hb => (jj_ua hb).trans (jj_zn hb)) (fun b hb => jj_zn hb) (fun b hb => (jj_ua hb).trans ((jj_ua hb).trans ((jj_ua hb).trans ((jj_ua hb).trans ((jj_ua hb).trans ((jj_ua hb).trans ((jj_ua hb).trans (jj_zn hb)))))))))⟩)

theorem v_cforkXB (G : jj_G) (τ : jj_T) (I : jj_I) (L : jj_L) (r : jj_R) {β : Nat} {ss : List Nat} {e N : Nat → Nat} {ρ : jm} {pl : Nat → Int32} {σ : jm} (h : cr_rel β ss e N ρ pl σ τ I L r) {t : Nat} (ht : t < nv (σ.1 0 11)) (ob : Nat) (hob : ob < nv (σ.1 0 0)) (hd : σ.1 19 t = 3) (y : Int64) (x : Option Nat) (q : Nat) (hq7 : τ q = none ∧ ¬ (1 ≤ q ∧ q ≤ 6)) (hq9 : β + 10000 ≤ q) : kk_M G yX0_forks (ws_ yX0_forks cX0_forks 7 (some (.object "BranchCells$Task"))) { frames := 8, cells := 1, slots := 7, locals := 193 } [jR (some 10), jR (some (β + 5000 + 20 * t)), jI (nI ob), jL y, jR x] true τ I L r jj_noP (fun a τ' I' L' r' => a = q ∧ I' q 6 = 4 ∧ cr_rel β ss e N ρ pl σ τ' I' L' r') := by
  refine kk_intro "BranchCells" (by decide) rfl (Nat.le_of_ble_eq_true rfl) ?_
  intro X hG hX hr hN hC hF hAd
  have hk := h.tk t ht
  have h9 := h.bd
  have hbe := h.e.be
  have hlb := h.lb.le
  have hlb2 := h.lb.lt
  have hlen := h.ss.len
  refine kk_iload_n (pc := 0) hX dX0_forks_0 rfl ?_
  refine kk_aload_n (pc := 1) hX dX0_forks_1 rfl ?_
  refine kk_getR (pc := 2) hX (x := some 13) fl_X0_99_0 dX0_forks_2 h.ro.k0 rfl h.ro.l1 ?_
  refine kk_callF (pc := 5) hX (v_size X.1 _ _ _ _ 13 h.lb.k0) dX0_forks_5 (lw_app (jj_wf q473 q477 q479 q53) (lw_meth q481)) (by decide +kernel) ⟨by decide +kernel, by decide +kernel, by show _ = some (0 : Nat); decide +kernel⟩ ⟨Nat.le_of_ble_eq_true rfl, Nat.le_of_ble_eq_true rfl, Nat.le_of_ble_eq_true rfl, Nat.le_of_ble_eq_true rfl, Nat.le_of_ble_eq_true rfl⟩ (fun q => by cases q) h.lb.k0 jc_33 rfl (jj_keq ?_) jj_kno
  refine kk_top (nI (nv (σ.1 0 0))) h.lb.sz ?_
  refine kk_icmp_lt (pc := 10) hX 23 dX0_forks_10 rfl (fun _ => ?_) (fun q => absurd (nI_lt hob (by omega)) q)
  refine kk_aload_n (pc := 23) hX dX0_forks_23 rfl ?_
  refine kk_getI (pc := 24) hX fl_X0_171_29 dX0_forks_24 hk.k.k0 rfl ?_
  refine kk_top (σ.1 19 t) hk.f.de ?_
  refine kk_iconst (pc := 27) hX (v := 3) dX0_forks_27 (by decide) ?_
  refine kk_icmp_ne (pc := 28) hX 40 dX0_forks_28 rfl (fun q => absurd hd q) (fun _ => ?_)
  refine kk_new (pc := 31) hX q ⟨hq7.1, hq7.2⟩ (hF rfl) dX0_forks_31 jc_32 q961 q963 q95 (by decide) ⟨Nat.le_of_ble_eq_true rfl, Nat.le_of_ble_eq_true rfl⟩ ?_
  refine kk_dup (pc := 34) hX dX0_forks_34 rfl ?_
  refine kk_iconst (pc := 35) hX (v := 4) dX0_forks_35 (by decide) ?_
  refine kk_callI (pc := 36) hX (v_Fi X.1 _ _ _ _ q jj_ts 4) dX0_forks_36 (lw_meth q1001) ⟨q999, q1000, q95, rfl⟩ ⟨by decide +kernel, by decide +kernel, by show _ = some (1 : Nat); decide +kernel⟩ ⟨Nat.le_of_ble_eq_true rfl, Nat.le_of_ble_eq_true rfl, Nat.le_of_ble_eq_true rfl, Nat.le_of_ble_eq_true rfl, Nat.le_of_ble_eq_true rfl⟩ (fun q => by cases q) rfl (jj_keq ?_) jj_kno
  refine kk_athrow (pc := 39) hX dX0_forks_39 jj_ts ?_
  exact kk_out (pc := 39) hX hN ⟨Nat.le_refl _, Nat.le_refl _⟩ (⟨rfl, jj_us, (cr_rel.gar h hq7.1 hq9 (fun b hb => jj_tn hb) (fun b hb => (jj_ua hb).trans (jj_zn hb)) (fun b hb => jj_zn hb) (fun b hb => (jj_ua hb).trans ((jj_ua hb).trans ((jj_ua hb).trans ((jj_ua hb).trans ((jj_ua hb).trans ((jj_ua hb).trans ((jj_ua hb).trans (jj_zn hb)))))))))⟩)

theorem v_cforkXC (G : jj_G) (τ : jj_T) (I : jj_I) (L : jj_L) (r : jj_R) {β : Nat} {ss : List Nat} {e N : Nat → Nat} {ρ : jm} {pl : Nat → Int32} {σ : jm} (h : cr_rel β ss e N ρ pl σ τ I L r) {t : Nat} (ht : t < nv (σ.1 0 11)) (ob : Nat) (hob : ob < nv (σ.1 0 0)) (hd : ¬ σ.1 19 t = 3) (hf : σ.1 18 t = 3) (y : Int64) (x : Option Nat) (q : Nat) (hq7 : τ q = none ∧ ¬ (1 ≤ q ∧ q ≤ 6)) (hq9 : β + 10000 ≤ q) : kk_M G yX0_forks (ws_ yX0_forks cX0_forks 7 (some (.object "BranchCells$Task"))) { frames := 8, cells := 1, slots := 7, locals := 193 } [jR (some 10), jR (some (β + 5000 + 20 * t)), jI (nI ob), jL y, jR x] true τ I L r jj_noP (fun a τ' I' L' r' => a = q ∧ I' q 6 = 5 ∧ cr_rel β ss e N ρ pl σ τ' I' L' r') := by
  refine kk_intro "BranchCells" (by decide) rfl (Nat.le_of_ble_eq_true rfl) ?_
  intro X hG hX hr hN hC hF hAd
  have hk := h.tk t ht
  have h9 := h.bd
  have hbe := h.e.be
  have hlb := h.lb.le
  have hlb2 := h.lb.lt
  have hlen := h.ss.len
  refine kk_iload_n (pc := 0) hX dX0_forks_0 rfl ?_
  refine kk_aload_n (pc := 1) hX dX0_forks_1 rfl ?_
  refine kk_getR (pc := 2) hX (x := some 13) fl_X0_99_0 dX0_forks_2 h.ro.k0 rfl h.ro.l1 ?_
  refine kk_callF (pc := 5) hX (v_size X.1 _ _ _ _ 13 h.lb.k0) dX0_forks_5 (lw_app (jj_wf q473 q477 q479 q53) (lw_meth q481)) (by decide +kernel) ⟨by decide +kernel, by decide +kernel, by show _ = some (0 : Nat); decide +kernel⟩ ⟨Nat.le_of_ble_eq_true rfl, Nat.le_of_ble_eq_true rfl, Nat.le_of_ble_eq_true rfl, Nat.le_of_ble_eq_true rfl, Nat.le_of_ble_eq_true rfl⟩ (fun q => by cases q) h.lb.k0 jc_33 rfl (jj_keq ?_) jj_kno
  refine kk_top (nI (nv (σ.1 0 0))) h.lb.sz ?_
  refine kk_icmp_lt (pc := 10) hX 23 dX0_forks_10 rfl (fun _ => ?_) (fun q => absurd (nI_lt hob (by omega)) q)
  refine kk_aload_n (pc := 23) hX dX0_forks_23 rfl ?_
  refine kk_getI (pc := 24) hX fl_X0_171_29 dX0_forks_24 hk.k.k0 rfl ?_
  refine kk_top (σ.1 19 t) hk.f.de ?_
  refine kk_iconst (pc := 27) hX (v := 3) dX0_forks_27 (by decide) ?_
  refine kk_icmp_ne (pc := 28) hX 40 dX0_forks_28 rfl (fun _ => ?_) (fun q => absurd q hd)
  refine kk_aload_n (pc := 40) hX dX0_forks_40 rfl ?_
  refine kk_getI (pc := 41) hX fl_X0_174_29 dX0_forks_41 hk.k.k0 rfl ?_
  refine kk_top (σ.1 18 t) hk.v.fk ?_
  refine kk_iconst (pc := 44) hX (v := 3) dX0_forks_44 (by decide) ?_
  refine kk_icmp_ne (pc := 45) hX 57 dX0_forks_45 rfl (fun q => absurd hf q) (fun _ => ?_)
  refine kk_new (pc := 48) hX q ⟨hq7.1, hq7.2⟩ (hF rfl) dX0_forks_48 jc_32 q961 q963 q95 (by decide) ⟨Nat.le_of_ble_eq_true rfl, Nat.le_of_ble_eq_true rfl⟩ ?_
  refine kk_dup (pc := 51) hX dX0_forks_51 rfl ?_
  refine kk_iconst (pc := 52) hX (v := 5) dX0_forks_52 (by decide) ?_
  refine kk_callI (pc := 53) hX (v_Fi X.1 _ _ _ _ q jj_ts 5) dX0_forks_53 (lw_meth q1001) ⟨q999, q1000, q95, rfl⟩ ⟨by decide +kernel, by decide +kernel, by show _ = some (1 : Nat); decide +kernel⟩ ⟨Nat.le_of_ble_eq_true rfl, Nat.le_of_ble_eq_true rfl, Nat.le_of_ble_eq_true rfl, Nat.le_of_ble_eq_true rfl, Nat.le_of_ble_eq_true rfl⟩ (fun q => by cases q) rfl (jj_keq ?_) jj_kno
  refine kk_athrow (pc := 56) hX dX0_forks_56 jj_ts ?_
  exact kk_out (pc := 56) hX hN ⟨Nat.le_refl _, Nat.le_refl _⟩ (⟨rfl, jj_us, (cr_rel.gar h hq7.1 hq9 (fun b hb => jj_tn hb) (fun b hb => (jj_ua hb).trans (jj_zn hb)) (fun b hb => jj_zn hb) (fun b hb => (jj_ua hb).trans ((jj_ua hb).trans ((jj_ua hb).trans ((jj_ua hb).trans ((jj_ua hb).trans ((jj_ua hb).trans ((jj_ua hb).trans (jj_zn hb)))))))))⟩)

theorem v_cfork (G : jj_G) (τ : jj_T) (I : jj_I) (L : jj_L) (r : jj_R) {β : Nat} {ss : List Nat} {e N : Nat → Nat} {ρ : jm} {pl : Nat → Int32} {σ : jm} (h : cr_rel β ss e N ρ pl σ τ I L r) {t : Nat} (ht : t < nv (σ.1 0 11)) (ob : Nat) (hob : ob < nv (σ.1 0 0)) (hd : ¬ σ.1 19 t = 3) (hf : ¬ σ.1 18 t = 3) (hin : cr_in ss (σ.1 22 t)) (h79 : nv (σ.1 0 36) + 2 ≤ 79) (h40 : nv (σ.1 0 11) + 1 ≤ 40) (hn36 : σ.1 0 36 = nI (nv (σ.1 0 36))) (hn11 : σ.1 0 11 = nI (nv (σ.1 0 11))) (hcm : jb (σ.1 2 ob) 40) (h00 : τ 0 = some (.inr (3, 0))) (v : Int64) (g : Int32) (y : Int64) (x : Option Nat) (hy : y = cr_nu g v) (hx : x = cr_hr β g v) (hx9 : ∀ w, x = some w → ∃ o, o < nv (σ.1 0 11) ∧ w = β + 5000 + 20 * o) (q q2 q3 : Nat) (hq7 : τ q = none ∧ ¬ (1 ≤ q ∧ q ≤ 6)) (hq27 : τ q2 = none ∧ ¬ (1 ≤ q2 ∧ q2 ≤ 6)) (hq37 : τ q3 = none ∧ ¬ (1 ≤ q3 ∧ q3 ≤ 6)) (hq9 : β + 10000 ≤ q) (hq29 : β + 10000 ≤ q2) (hq39 : β + 10000 ≤ q3) (hqq : q < q2 ∧ q2 < q3) : kk_M G yX0_forks (ws_ yX0_forks cX0_forks 7 (some (.object "BranchCells$Task"))) { frames := 8, cells := 18, slots := 947, locals := 193 } [jR (some 10), jR (some (β + 5000 + 20 * t)), jI (nI ob), jL y, jR x] true τ I L r (fun v' τ' I' L' r' => v' = some (jR (some (β + 5000 + 20 * nv (σ.1 0 11)))) ∧ τ' (β + 5000 + 20 * nv (σ.1 0 11)) = some (.inl 29) ∧ ∃ ss' e' N', cr_rel β ss' e' N' ρ (cr_pl pl (nv (σ.1 0 11)) 0) (m_nt (nI ob) (nI t) v g (σ.1 0 36 + 1) (σ.1 22 t) (m_ns (σ.1 22 t) (m_f1 t σ))) τ' I' L' r') jj_no := by
  refine kk_intro "BranchCells" (by decide) rfl (Nat.le_of_ble_eq_true rfl) ?_
  intro X hG hX hr hN hC hF hAd
  have hk := h.tk t ht
  have h9 := h.bd
  have hbe := h.e.be
  have hlb := h.lb.le
  have hlb2 := h.lb.lt
  have hlen := h.ss.len
  have e36 : nv ((m_f1 t σ).1 0 36) = nv (σ.1 0 36) + 1 := by rw [m_f1_36, sz_un hn36 (by omega)]
  have hn36s : (m_f1 t σ).1 0 36 = nI (nv (σ.1 0 36) + 1) := by rw [m_f1_36, sz_u hn36]
  have hn364 : ¬ σ.1 0 36 = -4 := by rw [hn36]; exact nI_n4 (by omega)
  have hn365 : ¬ σ.1 0 36 + 1 = -4 := by rw [← sz_u hn36]; exact nI_n4 (by omega)
  refine kk_iload_n (pc := 0) hX dX0_forks_0 rfl ?_
  refine kk_aload_n (pc := 1) hX dX0_forks_1 rfl ?_
  refine kk_getR (pc := 2) hX (x := some 13) fl_X0_99_0 dX0_forks_2 h.ro.k0 rfl h.ro.l1 ?_
  refine kk_callF (pc := 5) hX (v_size X.1 _ _ _ _ 13 h.lb.k0) dX0_forks_5 (lw_app (jj_wf q473 q477 q479 q53) (lw_meth q481)) (by decide +kernel) ⟨by decide +kernel, by decide +kernel, by show _ = some (0 : Nat); decide +kernel⟩ ⟨Nat.le_of_ble_eq_true rfl, Nat.le_of_ble_eq_true rfl, Nat.le_of_ble_eq_true rfl, Nat.le_of_ble_eq_true rfl, Nat.le_of_ble_eq_true rfl⟩ (fun q => by cases q) h.lb.k0 jc_33 rfl (jj_keq ?_) jj_kno
  refine kk_top (nI (nv (σ.1 0 0))) h.lb.sz ?_
  refine kk_icmp_lt (pc := 10) hX 23 dX0_forks_10 rfl (fun _ => ?_) (fun q => absurd (nI_lt hob (by omega)) q)
  refine kk_aload_n (pc := 23) hX dX0_forks_23 rfl ?_
  refine kk_getI (pc := 24) hX fl_X0_171_29 dX0_forks_24 hk.k.k0 rfl ?_
  refine kk_top (σ.1 19 t) hk.f.de ?_
  refine kk_iconst (pc := 27) hX (v := 3) dX0_forks_27 (by decide) ?_
  refine kk_icmp_ne (pc := 28) hX 40 dX0_forks_28 rfl (fun _ => ?_) (fun q => absurd q hd)
  refine kk_aload_n (pc := 40) hX dX0_forks_40 rfl ?_
  refine kk_getI (pc := 41) hX fl_X0_174_29 dX0_forks_41 hk.k.k0 rfl ?_
  refine kk_top (σ.1 18 t) hk.v.fk ?_
  refine kk_iconst (pc := 44) hX (v := 3) dX0_forks_44 (by decide) ?_
  refine kk_icmp_ne (pc := 45) hX 57 dX0_forks_45 rfl (fun _ => ?_) (fun q => absurd q hf)
  refine kk_aload_n (pc := 57) hX dX0_forks_57 rfl ?_
  refine kk_getR (pc := 58) hX (x := (cr_sr β (σ.1 22 t))) fl_X0_177_29 dX0_forks_58 hk.k.k0 rfl hk.v.pr ?_
  refine kk_astore (pc := 61) hX dX0_forks_61 (by decide) ?_
  refine kk_aload_n (pc := 63) hX dX0_forks_63 rfl ?_
  refine kk_aload_n (pc := 64) hX dX0_forks_64 rfl ?_
  refine kk_aload (pc := 65) hX dX0_forks_65 rfl ?_
  refine kk_callV (pc := 67) hX (v_cseg X.1 _ _ _ _ h (σ.1 22 t) hin (by omega) hn36 h00 (by omega) q hq7 hq9) dX0_forks_67 (lw_V q715 q717 qs9 q50 q718) rfl ⟨by decide +kernel, by decide +kernel, by show _ = some (1 : Nat); decide +kernel⟩ ⟨Nat.le_of_ble_eq_true rfl, Nat.le_of_ble_eq_true rfl, Nat.le_of_ble_eq_true rfl, Nat.le_of_ble_eq_true rfl, Nat.le_of_ble_eq_true rfl⟩ (fun _ => hF rfl) h.ro.k0 jc_0 rfl (fun _ τ2 I2 L2 r2 hP => ?_) jj_kno
  obtain ⟨rfl, hτ2, e2, N2, h2⟩ := hP
  have ht2 : t < nv ((m_ns (σ.1 22 t) σ).1 0 11) := by rw [m_ns_11 (by decide)]; exact ht
  have hk2 := h2.tk t ht2
  have h2τ0 := (hτ2 0 (by omega) (by omega)).trans h00
  refine kk_putR (pc := 70) hX fl_X0_177_29 dX0_forks_70 hk2.k.k0 rfl ?_
  refine kk_aload_n (pc := 73) hX dX0_forks_73 rfl ?_
  refine kk_dup (pc := 74) hX dX0_forks_74 rfl ?_
  refine kk_getI (pc := 75) hX fl_X0_174_29 dX0_forks_75 hk2.k.k0 rfl ?_
  refine kk_top (σ.1 18 t) (hk2.v.fk.trans (m_ns_t (by decide))) ?_
  refine kk_iconst (pc := 78) hX (v := 1) dX0_forks_78 (by decide) ?_
  refine kk_iadd (pc := 79) hX dX0_forks_79 ?_
  refine kk_putI (pc := 80) hX fl_X0_174_29 dX0_forks_80 hk2.k.k0 rfl rfl ?_
  have h3 := at_pr h2 ht2 (σ.1 0 36) hn364 (List.mem_append_right _ List.mem_cons_self)
  have h4 := at_fk h3 (by show t < nv ((m_u (m_ns (σ.1 22 t) σ) 22 t (σ.1 0 36)).1 0 11); rw [mu_n (Or.inl (by decide))]; exact ht2) (σ.1 18 t + 1)
  rw [fk_eq] at h4
  refine kk_aload_n (pc := 83) hX dX0_forks_83 rfl ?_
  refine kk_aload_n (pc := 84) hX dX0_forks_84 rfl ?_
  refine kk_aload_n (pc := 85) hX dX0_forks_85 rfl ?_
  refine kk_getI (pc := 86) hX fl_X0_174_29 dX0_forks_86 hk2.k.k0 rfl ?_
  refine kk_top ((σ.1 18 t) + 1) jj_us ?_
  refine kk_iload_n (pc := 89) hX dX0_forks_89 rfl ?_
  refine kk_aload_n (pc := 90) hX dX0_forks_90 rfl ?_
  refine kk_aload (pc := 91) hX dX0_forks_91 rfl ?_
  refine kk_callV (pc := 93) hX (v_cseg X.1 _ _ _ _ h4 (σ.1 22 t) hin.ap (by rw [e36]; omega) (by rw [e36]; exact hn36s) (h2τ0) (by rw [List.length_append, List.length_singleton]; omega) q2 ⟨(hτ2 q2 (by omega) (by omega)).trans hq27.1, hq27.2⟩ hq29) dX0_forks_93 (lw_V q715 q717 qs9 q50 q718) rfl ⟨by decide +kernel, by decide +kernel, by show _ = some (1 : Nat); decide +kernel⟩ ⟨Nat.le_of_ble_eq_true rfl, Nat.le_of_ble_eq_true rfl, Nat.le_of_ble_eq_true rfl, Nat.le_of_ble_eq_true rfl, Nat.le_of_ble_eq_true rfl⟩ (fun _ => hF rfl) h2.ro.k0 jc_0 rfl (fun _ τ3 I3 L3 r3 hP => ?_) jj_kno
  obtain ⟨rfl, hτ3, e3, N3, h5⟩ := hP
  have e11 : (m_ns (σ.1 22 t) (m_f1 t σ)).1 0 11 = σ.1 0 11 := by rw [m_ns_11 (by decide), m_f1_11 (by decide)]
  have e00 : (m_ns (σ.1 22 t) (m_f1 t σ)).1 0 0 = σ.1 0 0 := by rw [m_ns_11 (by decide), m_f1_11 (by decide)]
  refine kk_aload (pc := 96) hX dX0_forks_96 rfl ?_
  refine kk_lload_n (pc := 98) hX dX0_forks_98 rfl ?_
  refine kk_aload (pc := 99) hX dX0_forks_99 rfl ?_
  refine kk_callV (pc := 101) hX (v_cbeginS X.1 _ _ _ _ h5 ob (by rw [e00]; exact hob) t (by rw [e11]; exact ht) (σ.1 18 t + 1) (by rw [m_ns_t (by decide), m_f1_18]) (σ.1 0 36 + 1) (σ.1 22 t) (some (β + 1000 + 10 * nv ((m_f1 t σ).1 0 36))) (cr_sr β (σ.1 22 t)) (by unfold cr_sr; rw [if_neg hn365, m_f1_36]) rfl (by rw [← m_f1_36 (t := t)]; exact List.mem_append_right _ List.mem_cons_self) hin.ap.ap v g y x hy hx (fun w hw => by
    obtain ⟨o9, ho9, rfl⟩ := hx9 w hw
    rw [e11]
    exact ⟨(h5.tk o9 (by rw [e11]; exact ho9)).k.k0, by omega⟩) (by rw [m_ns_t (by decide), m_f1_o (by decide)]; exact hcm) (by rw [e11]; omega) (by rw [e11]; exact hn11) ((hτ3 0 (by omega) (by omega)).trans h2τ0) q3 ⟨(hτ3 q3 (by omega) (by rw [e36]; omega)).trans ((hτ2 q3 (by omega) (by omega)).trans hq37.1), hq37.2⟩ hq39) dX0_forks_101 (lw_V q762 q764 qs10 q50 q765) rfl ⟨by decide +kernel, by decide +kernel, by show _ = some (7 : Nat); decide +kernel⟩ ⟨Nat.le_of_ble_eq_true rfl, Nat.le_of_ble_eq_true rfl, Nat.le_of_ble_eq_true rfl, Nat.le_of_ble_eq_true rfl, Nat.le_of_ble_eq_true rfl⟩ (fun _ => hF rfl) h5.ro.k0 jc_0 rfl (fun _ τ4 I4 L4 r4 hP => ?_) jj_kno
  obtain ⟨rfl, hτ4, hk4, e4, N4, h6⟩ := hP
  rw [e11] at hk4 h6
  rw [e11]
  exact kk_aret (pc := 104) hX dX0_forks_104 hr ⟨Nat.le_refl _, Nat.le_refl _⟩ (Or.inl ⟨_, rfl⟩) (⟨rfl, hk4, _, _, _, h6⟩)
