set_option maxRecDepth 100000
theorem cj_sm.rt {a σ : jm} (h : cj_sm a σ) {m : Nat} : m_right m σ = m_right m a := by
  unfold m_right
  rw [h.1 6 m (by decide) (by decide) (by decide) (by omega), show (fun k => σ.1 7 (12 * m + k)) = (fun k => a.1 7 (12 * m + k)) from funext fun k => h.1 7 _ (by decide) (by decide) (by decide) (by omega)]
theorem cj_sm.mc {a σ σq : jm} (h : cj_sm a σ) (h1 : σq.1 = σ.1) (h2 : ∀ k j, k ≠ 10 → σq.2 k j = σ.2 k j) {t c : Nat} {v : Int64} : cj_sm a (m_mc (m_write t c v σq)) := by
  have hq : cj_sm a σq := ⟨by rw [h1]; exact h.1, fun k j q1 q2 q3 q4 => (h2 k j q3).trans (h.2 k j q1 q2 q3 q4)⟩
  unfold m_mc m_write
  exact ((hq.u (by omega)).v (by omega)).u (by omega)
theorem mw_1 {t c : Nat} {v : Int64} {σ σq : jm} (h1 : σq.1 = σ.1) {k j : Nat} (hk : k ≠ 0) (hj : k = 39 → j ≠ 16 * nv (σ.1 22 t) + c) : (m_mc (m_write t c v σq)).1 k j = σ.1 k j := by
  unfold m_mc m_write
  rw [mu_n (Or.inl hk), mv_1, mu_n (by rw [h1]; by_cases z : k = 39; exact Or.inr (hj z); exact Or.inl z), h1]
theorem v_joins_c {X : jj_X} {o : jj_T} {mc ms : Nat} (hX : kk_ok X cX0_joins "BranchCells" 5 5 112 mc ms) {Q : State → Prop} {τ : jj_T} {r : jj_R} {β : Nat} {ss : List Nat} {e N : Nat → Nat} {ρ : jm} {pl : Nat → Int32} {t o9 : Nat} {b : jm} (hu : m_und b) (hp : m_pr b) (ht : t < nv (b.1 0 11)) (ho9 : o9 < nv (b.1 0 11)) (hki : ∀ c, c < 16 → jb (b.1 9 c) 6 ∧ (3 ≤ nv (b.1 9 c) → nv (b.1 9 c) - 3 < nv (b.1 0 4) ∧ m_right (nv (b.1 9 c) - 3) b = true)) (hpt : b.1 22 t = nI (nv (b.1 22 t)) ∧ nv (b.1 22 t) < nv (b.1 0 36)) (hpo : b.1 22 o9 = nI (nv (b.1 22 o9)) ∧ nv (b.1 22 o9) < nv (b.1 0 36)) (hrt : m_ch (nv (b.1 0 36)) (b.1 23 o9)) (hst : nv (b.1 22 t) ∈ ss) (hso : nv (b.1 22 o9) ∈ ss) (hsr : cr_in ss (b.1 23 o9)) (W : Int32) (wf : Nat → Int32) (hW : ∀ c, c < 16 → (bt W c = true ↔ ¬ wf c = 0)) (σe : jm) (K : ∀ (I : jj_I) (L : jj_L), cr_rel β ss e N ρ pl σe τ I L r → cj_sm b σe → kk_J X o Q 0 0 183 [(0, jR (some 10)), (1, jR (some (β + 5000 + 20 * t))), (2, jR (some (β + 5000 + 20 * o9)))] [] τ I L r) : ∀ (n c : Nat) (σ : jm) (I : jj_I) (L : jj_L), cr_rel β ss e N ρ pl σ τ I L r → cj_sm b σ → (∀ d, c ≤ d → d < 16 → m_wro d (b.1 23 o9) σ 170 (b.1 22 o9) 0 = wf d) → c + n = 16 → m_jl t o9 n c σ = σe → kk_J X o Q 0 0 108 [(0, jR (some 10)), (1, jR (some (β + 5000 + 20 * t))), (2, jR (some (β + 5000 + 20 * o9))), (3, jI W), (4, jI (nI c))] [] τ I L r := by
  intro n
  induction n with
  | zero =>
    intro c σ I L h hsm hwr hcn he
    unfold m_jl at he
    subst he
    refine kk_iload (pc := 108) hX dX0_joins_108 rfl ?_
    refine kk_bipush (pc := 110) hX (v := 16) dX0_joins_110 (by decide) ?_
    refine kk_icmp_ge (pc := 112) hX 183 dX0_joins_112 rfl (fun _ => ?_) (fun q => absurd (nI_le (a := 16) (show 16 ≤ c by omega) (by omega)) q)
    refine kk_lss [(0, jR (some 10)), (1, jR (some (β + 5000 + 20 * t))), (2, jR (some (β + 5000 + 20 * o9)))] ⟨rfl, rfl, rfl, trivial⟩ ?_
    exact K I L h hsm
  | succ n ih =>
    intro c σ I L h hsm hwr hcn he
    unfold m_jl at he
    have hc : c < 16 := by omega
    have e11 : σ.1 0 11 = b.1 0 11 := hsm.1 0 11 (by decide) (by decide) (by decide) (by omega)
    have e36 : σ.1 0 36 = b.1 0 36 := hsm.1 0 36 (by decide) (by decide) (by decide) (by omega)
    have e04 : σ.1 0 4 = b.1 0 4 := hsm.1 0 4 (by decide) (by decide) (by decide) (by omega)
    have e22 : σ.1 22 t = b.1 22 t := hsm.1 22 t (by decide) (by decide) (by decide) (by omega)
    have e22o : σ.1 22 o9 = b.1 22 o9 := hsm.1 22 o9 (by decide) (by decide) (by decide) (by omega)
    have e23 : σ.1 23 o9 = b.1 23 o9 := hsm.1 23 o9 (by decide) (by decide) (by decide) (by omega)
    have e9 : σ.1 9 c = b.1 9 c := hsm.1 9 c (by decide) (by decide) (by decide) (by omega)
    by_cases hb : bt W c = true
    · have hn0 : ¬ m_wro c (b.1 23 o9) σ 170 (b.1 22 o9) 0 = 0 := by rw [hwr c (Nat.le_refl _) hc]; exact (hW c hc).mp hb
      have hj : m_jc t o9 c σ = m_mc (m_write t c (m_mof (nv (σ.1 9 c)) (m_rd c σ 170 (σ.1 23 o9)) (m_rd c σ 170 (σ.1 22 t)) (m_rd c σ 170 (σ.1 22 o9)) σ).1 (m_mof (nv (σ.1 9 c)) (m_rd c σ 170 (σ.1 23 o9)) (m_rd c σ 170 (σ.1 22 t)) (m_rd c σ 170 (σ.1 22 o9)) σ).2) := by
        unfold m_jc
        rw [e23, e22o, if_neg hn0, ← e23, ← e22o]
        rfl
      rw [hj] at he
      have hk := h.tk t (by rw [e11]; exact ht)
      have ho := h.tk o9 (by rw [e11]; exact ho9)
      have hu9 := hsm.und hu
      have hn4 : ¬ σ.1 22 t = -4 := by rw [e22, hpt.1]; exact nI_n4 (by have := hu.1; omega)
      have hs := h.sg (nv (σ.1 22 t)) (by rw [e22, e36]; exact hpt.2)
      refine kk_iload (pc := 108) hX dX0_joins_108 rfl ?_
      refine kk_bipush (pc := 110) hX (v := 16) dX0_joins_110 (by decide) ?_
      refine kk_icmp_ge (pc := 112) hX 183 dX0_joins_112 rfl (fun q => absurd q (nI_ge (b := 16) (show c < 16 by omega) (by decide))) (fun _ => ?_)
      refine kk_iload_n (pc := 115) hX dX0_joins_115 rfl ?_
      refine kk_iload (pc := 116) hX dX0_joins_116 rfl ?_
      refine kk_ishr (pc := 118) hX dX0_joins_118 ?_
      refine kk_iconst (pc := 119) hX (v := 1) dX0_joins_119 (by decide) ?_
      refine kk_iand (pc := 120) hX dX0_joins_120 ?_
      refine kk_iconst (pc := 121) hX (v := 1) dX0_joins_121 (by decide) ?_
      refine kk_icmp_ne (pc := 122) hX 177 dX0_joins_122 rfl (fun q => absurd ((bt_sh hc).mpr hb) q) (fun _ => ?_)
      refine kk_aload_n (pc := 125) hX dX0_joins_125 rfl ?_
      refine kk_getR (pc := 126) hX (x := some (β + 1000 + 10 * nv (σ.1 22 t))) fl_X0_177_29 dX0_joins_126 hk.k.k0 rfl (hk.v.pr.trans (if_neg hn4)) ?_
      refine kk_iload (pc := 129) hX dX0_joins_129 rfl ?_
      refine kk_aload_n (pc := 131) hX dX0_joins_131 rfl ?_
      refine kk_iload (pc := 132) hX dX0_joins_132 rfl ?_
      refine kk_aload_n (pc := 134) hX dX0_joins_134 rfl ?_
      refine kk_getR (pc := 135) hX (x := (cr_sr β (σ.1 23 o9))) fl_X0_229_29 dX0_joins_135 ho.k.k0 rfl ho.f.ro ?_
      refine kk_iload (pc := 138) hX dX0_joins_138 rfl ?_
      refine kk_callS (pc := 140) hX (v_Sread X.1 _ _ _ _ h hu9 (σ.1 23 o9) c hc (by rw [e23, e36]; exact hrt) (by rw [e23]; exact hsr)) dX0_joins_140 (lw_S q1170 q1171 q87 q1172) ⟨by decide +kernel, by decide +kernel, by show _ = some (2 : Nat); decide +kernel⟩ ⟨Nat.le_of_ble_eq_true rfl, Nat.le_of_ble_eq_true rfl, Nat.le_of_ble_eq_true rfl, Nat.le_of_ble_eq_true rfl, Nat.le_of_ble_eq_true rfl⟩ (fun q => by cases q) rfl (jj_keq ?_) jj_kno
      refine kk_aload_n (pc := 143) hX dX0_joins_143 rfl ?_
      refine kk_getR (pc := 144) hX (x := (cr_sr β (σ.1 22 t))) fl_X0_177_29 dX0_joins_144 hk.k.k0 rfl hk.v.pr ?_
      refine kk_iload (pc := 147) hX dX0_joins_147 rfl ?_
      refine kk_callS (pc := 149) hX (v_Sread X.1 _ _ _ _ h hu9 (σ.1 22 t) c hc (Or.inr (by rw [e22, e36]; exact hpt)) (Or.inr (by rw [e22]; exact hst))) dX0_joins_149 (lw_S q1170 q1171 q87 q1172) ⟨by decide +kernel, by decide +kernel, by show _ = some (2 : Nat); decide +kernel⟩ ⟨Nat.le_of_ble_eq_true rfl, Nat.le_of_ble_eq_true rfl, Nat.le_of_ble_eq_true rfl, Nat.le_of_ble_eq_true rfl, Nat.le_of_ble_eq_true rfl⟩ (fun q => by cases q) rfl (jj_keq ?_) jj_kno
      refine kk_aload_n (pc := 152) hX dX0_joins_152 rfl ?_
      refine kk_getR (pc := 153) hX (x := (cr_sr β (σ.1 22 o9))) fl_X0_177_29 dX0_joins_153 ho.k.k0 rfl ho.v.pr ?_
      refine kk_iload (pc := 156) hX dX0_joins_156 rfl ?_
      refine kk_callS (pc := 158) hX (v_Sread X.1 _ _ _ _ h hu9 (σ.1 22 o9) c hc (Or.inr (by rw [e22o, e36]; exact hpo)) (Or.inr (by rw [e22o]; exact hso))) dX0_joins_158 (lw_S q1170 q1171 q87 q1172) ⟨by decide +kernel, by decide +kernel, by show _ = some (2 : Nat); decide +kernel⟩ ⟨Nat.le_of_ble_eq_true rfl, Nat.le_of_ble_eq_true rfl, Nat.le_of_ble_eq_true rfl, Nat.le_of_ble_eq_true rfl, Nat.le_of_ble_eq_true rfl⟩ (fun q => by cases q) rfl (jj_keq ?_) jj_kno
      refine kk_callV (pc := 161) hX (v_cmerged X.1 _ _ _ _ h (hsm.pr hp) c hc (by rw [e9]; exact (hki c hc).1) (by rw [e9, e04, hsm.rt]; exact (hki c hc).2) (m_rd c σ 170 (σ.1 23 o9)) (m_rd c σ 170 (σ.1 22 t)) (m_rd c σ 170 (σ.1 22 o9))) dX0_joins_161 (lw_V q1177 q1179 qs16 q50 q1180) rfl ⟨by decide +kernel, by decide +kernel, by show _ = some (4 : Nat); decide +kernel⟩ ⟨Nat.le_of_ble_eq_true rfl, Nat.le_of_ble_eq_true rfl, Nat.le_of_ble_eq_true rfl, Nat.le_of_ble_eq_true rfl, Nat.le_of_ble_eq_true rfl⟩ (fun q => by cases q) h.ro.k0 jc_0 rfl (fun _ _ _ L2 _ hP => ?_) jj_kno
      obtain ⟨rfl, rfl, rfl, rfl, h2⟩ := hP
      refine kk_callV (pc := 164) hX (v_cwrite X.1 _ _ _ _ h2 (s := nv (σ.1 22 t)) (by rw [cj_mof1, e22, e36]; exact hpt.2) c (m_mof (nv (σ.1 9 c)) (m_rd c σ 170 (σ.1 23 o9)) (m_rd c σ 170 (σ.1 22 t)) (m_rd c σ 170 (σ.1 22 o9)) σ).1 hc) dX0_joins_164 (lw_V q1181 q1182 q1183 q87 q1184) rfl ⟨by decide +kernel, by decide +kernel, by show _ = some (2 : Nat); decide +kernel⟩ ⟨Nat.le_of_ble_eq_true rfl, Nat.le_of_ble_eq_true rfl, Nat.le_of_ble_eq_true rfl, Nat.le_of_ble_eq_true rfl, Nat.le_of_ble_eq_true rfl⟩ (fun q => by cases q) hs.k0 jc_28 rfl (fun _ _ I3 L3 _ hP => ?_) jj_kno
      obtain ⟨rfl, rfl, rfl, h3⟩ := hP
      refine kk_aload_n (pc := 167) hX dX0_joins_167 rfl ?_
      refine kk_dup (pc := 168) hX dX0_joins_168 rfl ?_
      refine kk_getI (pc := 169) hX fl_X0_250_0 dX0_joins_169 h.ro.k0 rfl ?_
      refine kk_top (σ.1 0 35) (h3.sc.me.trans (mv_1.trans ((mu_n (Or.inl (by decide))).trans (congrFun (congrFun cj_mof1 0) 35)))) ?_
      refine kk_iconst (pc := 172) hX (v := 1) dX0_joins_172 (by decide) ?_
      refine kk_iadd (pc := 173) hX dX0_joins_173 ?_
      refine kk_putI (pc := 174) hX fl_X0_250_0 dX0_joins_174 h.ro.k0 rfl rfl ?_
      have h4 := at_me h3 (σ.1 0 35 + 1)
      rw [mc_eq cj_mof1] at h4
      refine kk_iinc (pc := 177) hX (v := nI (c + 1)) dX0_joins_177 rfl (kx_inc rfl) (by decide) ?_
      refine kk_goto (pc := 180) hX 108 dX0_joins_180 rfl ?_
      refine kk_lss [(0, jR (some 10)), (1, jR (some (β + 5000 + 20 * t))), (2, jR (some (β + 5000 + 20 * o9))), (3, jI W), (4, jI (nI (c + 1)))] ⟨rfl, rfl, rfl, rfl, rfl, trivial⟩ ?_
      refine ih (c + 1) _ _ _ h4 (hsm.mc cj_mof1 (fun k j hk9 => cj_mof2 hk9)) (fun d h1 h2 => ?_) (by omega) he
      rw [m_wro_cg (σ := σ) (fun s => mw_1 cj_mof1 (by decide) (fun z => by cases z)) (fun s => mw_1 cj_mof1 (by decide) (fun _ => by omega))]
      exact hwr d (by omega) h2
    · have hz : m_wro c (b.1 23 o9) σ 170 (b.1 22 o9) 0 = 0 := by rw [hwr c (Nat.le_refl _) hc]; exact Decidable.of_not_not (fun z => hb ((hW c hc).mpr z))
      have hj : m_jc t o9 c σ = σ := by
        unfold m_jc
        rw [e23, e22o, if_pos hz]
      rw [hj] at he
      refine kk_iload (pc := 108) hX dX0_joins_108 rfl ?_
      refine kk_bipush (pc := 110) hX (v := 16) dX0_joins_110 (by decide) ?_
      refine kk_icmp_ge (pc := 112) hX 183 dX0_joins_112 rfl (fun q => absurd q (nI_ge (b := 16) (show c < 16 by omega) (by decide))) (fun _ => ?_)
      refine kk_iload_n (pc := 115) hX dX0_joins_115 rfl ?_
      refine kk_iload (pc := 116) hX dX0_joins_116 rfl ?_
      refine kk_ishr (pc := 118) hX dX0_joins_118 ?_
      refine kk_iconst (pc := 119) hX (v := 1) dX0_joins_119 (by decide) ?_
      refine kk_iand (pc := 120) hX dX0_joins_120 ?_
      refine kk_iconst (pc := 121) hX (v := 1) dX0_joins_121 (by decide) ?_
      refine kk_icmp_ne (pc := 122) hX 177 dX0_joins_122 rfl (fun _ => ?_) (fun q => absurd q (fun z => hb ((bt_sh hc).mp z)))
      refine kk_iinc (pc := 177) hX (v := nI (c + 1)) dX0_joins_177 rfl (kx_inc rfl) (by decide) ?_
      refine kk_goto (pc := 180) hX 108 dX0_joins_180 rfl ?_
      refine kk_lss [(0, jR (some 10)), (1, jR (some (β + 5000 + 20 * t))), (2, jR (some (β + 5000 + 20 * o9))), (3, jI W), (4, jI (nI (c + 1)))] ⟨rfl, rfl, rfl, rfl, rfl, trivial⟩ ?_
      exact ih (c + 1) σ I L h hsm (fun d h1 h2 => hwr d (by omega) h2) (by omega) he

theorem v_cjoin (G : jj_G) (τ : jj_T) (I : jj_I) (L : jj_L) (r : jj_R) {β : Nat} {ss : List Nat} {e N : Nat → Nat} {ρ : jm} {pl : Nat → Int32} {t : Nat} {a : jm} (h : cr_rel β ss e N ρ pl (m_s2 t 1 a) τ I L r) (hv : m_inv a) (ht : t < nv (a.1 0 11)) (o9 : Nat) (ho9 : o9 < nv (a.1 0 11)) (hto : o9 ≠ t) (h0 : a.1 15 t = 0) (h1 : 1 ≤ nv (a.1 32 t)) (hso : a.1 15 o9 = 2) : kk_M G yX0_joins (ws_ yX0_joins cX0_joins 5 none) { frames := 5, cells := 0, slots := 0, locals := 112 } [jR (some 10), jR (some (β + 5000 + 20 * t)), jR (some (β + 5000 + 20 * o9))] false τ I L r (fun v' τ' I' L' r' => v' = none ∧ τ' = τ ∧ cr_rel β ss e N ρ pl (m_join t o9 (m_s2 t 1 a)) τ I' L' r') jj_no := by
  refine kk_intro "BranchCells" (by decide) rfl (Nat.le_of_ble_eq_true rfl) ?_
  intro X hG hX hr hN hC hF hAd
  have ho := h.tk o9 ho9
  have hk := h.tk t ht
  have hT := hv.T
  have hoo := hv.tk o9 ho9
  have htt := hv.tk t ht
  have h4o : ¬ a.1 15 o9 = 4 := by rw [hso]; decide
  have hpt : nv (a.1 22 t) ∈ ss := h.ss.pr t ht (show ¬ a.1 15 t = 4 by rw [h0]; decide)
  have hpo : nv (a.1 22 o9) ∈ ss := h.ss.pr o9 ho9 h4o
  have hro : cr_in ss (a.1 23 o9) := h.ss.ro o9 ho9 h4o
  have hrc := hoo.rc h4o
  have hrun : a.1 0 10 = 1 := by
    rcases hv.ru with z | z
    · have := hv.r0 z
      rw [this] at ht
      exact absurd ht (Nat.not_lt_zero _)
    · exact z
  have hki : ∀ c, c < 16 → jb (a.1 9 c) 6 ∧ (3 ≤ nv (a.1 9 c) → nv (a.1 9 c) - 3 < nv (a.1 0 4) ∧ m_right (nv (a.1 9 c) - 3) a = true) := fun c hc => ⟨(hv.ki c hc).1, fun z => ⟨(hv.ki c hc).2 z, (hv.rk hrun).2 c hc z⟩⟩
  have hst : r (β + 5000 + 20 * o9) 10 = some 2 := (cr_st_2 (show cr_st (a.1 15 o9) (r (β + 5000 + 20 * o9) 10) (I (β + 5000 + 20 * o9) 11) from ho.v.st) ((cr_st_g (show cr_st (a.1 15 o9) (r (β + 5000 + 20 * o9) 10) (I (β + 5000 + 20 * o9) 11) from ho.v.st)).mpr h4o)).mpr hso
  refine kk_aload_n (pc := 0) hX dX0_joins_0 rfl ?_
  refine kk_iconst (pc := 1) hX (v := 1) dX0_joins_1 (by decide) ?_
  refine kk_putZ (pc := 2) hX fl_X0_197_29 dX0_joins_2 ho.k.k0 rfl rfl (by decide) ?_
  refine kk_iconst (pc := 5) hX (v := 0) dX0_joins_5 (by decide) ?_
  refine kk_istore_n (pc := 6) hX dX0_joins_6 (by decide) ?_
  have hG := at_gone h ho9 (Or.inl hso)
  refine kk_lss [(0, jR (some 10)), (1, jR (some (β + 5000 + 20 * t))), (2, jR (some (β + 5000 + 20 * o9))), (3, jI (nI 0))] ⟨rfl, rfl, rfl, rfl, trivial⟩ ?_
  refine v_joins_a hX hto (nv (a.1 34 o9)) hoo.po.2.2 _ (fun I3 L3 h3 => ?_) (nv (a.1 34 o9)) 0 (m_u (m_s2 t 1 a) 15 o9 4) _ _ hG (Nat.zero_add _) ht ho9 htt.po.2.1 hoo.po.2.1 rfl
  have q24 : ∀ u, (m_tls t o9 (nv (a.1 34 o9)) 0 (m_u (m_s2 t 1 a) 15 o9 4)).2 24 u = a.2 24 u := fun u => m_tls_2 (by decide) _ _ _
  have h3t : t < nv ((m_tls t o9 (nv (a.1 34 o9)) 0 (m_u (m_s2 t 1 a) 15 o9 4)).1 0 11) := by rw [m_tls_1 (by decide)]; exact ht
  have h3o : o9 < nv ((m_tls t o9 (nv (a.1 34 o9)) 0 (m_u (m_s2 t 1 a) 15 o9 4)).1 0 11) := by rw [m_tls_1 (by decide)]; exact ho9
  refine kk_aload_n (pc := 31) hX dX0_joins_31 rfl ?_
  refine kk_ldc2 (pc := 32) hX (v := 31) q962 dX0_joins_32 ?_
  refine kk_aload_n (pc := 35) hX dX0_joins_35 rfl ?_
  refine kk_getL (pc := 36) hX fl_X0_213_29 dX0_joins_36 hk.k.k0 rfl ?_
  refine kk_topL (a.2 24 t) ((h3.tk t h3t).v.mk.trans (q24 t)) ?_
  refine kk_lmul (pc := 39) hX dX0_joins_39 ?_
  refine kk_aload_n (pc := 40) hX dX0_joins_40 rfl ?_
  refine kk_getL (pc := 41) hX fl_X0_213_29 dX0_joins_41 ho.k.k0 rfl ?_
  refine kk_topL (a.2 24 o9) ((h3.tk o9 h3o).v.mk.trans (q24 o9)) ?_
  refine kk_ladd (pc := 44) hX dX0_joins_44 ?_
  refine kk_putL (pc := 45) hX fl_X0_213_29 dX0_joins_45 hk.k.k0 rfl ?_
  have h4 := at_mk h3 h3t (31 * a.2 24 t + a.2 24 o9)
  have e1 : m_v (m_tls t o9 (nv (a.1 34 o9)) 0 (m_u (m_s2 t 1 a) 15 o9 4)) 24 t (31 * a.2 24 t + a.2 24 o9) = m_j1 t o9 (m_s2 t 1 a) := (m_tls_c _ _ _).symm
  rw [e1] at h4
  have hsm : cj_sm (m_s2 t 1 a) (m_j1 t o9 (m_s2 t 1 a)) := m_tls_sm _ _ _ ((cj_sm.rf.u (by omega)).v (by omega))
  have ho4 := h4.tk o9 (by rw [hsm.1 0 11 (by decide) (by decide) (by decide) (by omega)]; exact ho9)
  refine kk_aload_n (pc := 48) hX dX0_joins_48 rfl ?_
  refine kk_getR (pc := 49) hX (x := some 2) fl_X0_217_29 dX0_joins_49 ho.k.k0 rfl hst ?_
  refine kk_gets3 (pc := 52) hX dX0_joins_52 q1168 ?_
  refine kk_acmp_ne (pc := 55) hX 70 ⟨by simp, by simp⟩ ⟨by simp, by simp⟩ dX0_joins_55 rfl (fun _ => ?_) (fun q => absurd q (by decide))
  refine kk_iconst (pc := 70) hX (v := 0) dX0_joins_70 (by decide) ?_
  refine kk_istore_n (pc := 71) hX dX0_joins_71 (by decide) ?_
  refine kk_aload_n (pc := 72) hX dX0_joins_72 rfl ?_
  refine kk_getR (pc := 73) hX (x := (cr_sr β (a.1 22 o9))) fl_X0_177_29 dX0_joins_73 ho.k.k0 rfl ho.v.pr ?_
  refine kk_astore (pc := 76) hX dX0_joins_76 (by decide) ?_
  refine kk_lss [(0, jR (some 10)), (1, jR (some (β + 5000 + 20 * t))), (2, jR (some (β + 5000 + 20 * o9))), (3, jI 0), (4, jR (cr_sr β (a.1 22 o9)))] ⟨rfl, rfl, rfl, rfl, rfl, trivial⟩ ?_
  refine v_joins_b hX h4 (by rw [hsm.1 0 11 (by decide) (by decide) (by decide) (by omega)]; exact ho9) (a.1 23 o9) (hoo.ro.imp id (fun z => z.1)) (hsm.1 23 o9 (by decide) (by decide) (by decide) (by omega)) (fun c => m_wro c (a.1 23 o9) (m_j1 t o9 (m_s2 t 1 a)) 170 (a.1 22 o9) 0) (fun W hW => ?_) 169 (a.1 22 o9) 0 (fun _ => 0) (hsm.rc _ _ (hrc)) (Or.inr hpo) (fun c hc => by rw [b_0]; exact ⟨fun z => (by cases z), fun z => absurd rfl z⟩) (fun c hc => rfl)
  refine kk_iconst (pc := 105) hX (v := 0) dX0_joins_105 (by decide) ?_
  refine kk_istore (pc := 106) hX dX0_joins_106 (by decide) ?_
  refine kk_lss [(0, jR (some 10)), (1, jR (some (β + 5000 + 20 * t))), (2, jR (some (β + 5000 + 20 * o9))), (3, jI W), (4, jI (nI 0))] ⟨rfl, rfl, rfl, rfl, rfl, trivial⟩ ?_
  refine v_joins_c hX (b := m_s2 t 1 a) (t := t) (o9 := o9) hv.und hv.mpr ht ho9 hki htt.pr hoo.pr hoo.ro hpt hpo hro W _ hW _ (fun I5 L5 h5 hsm5 => ?_) 16 0 (m_j1 t o9 (m_s2 t 1 a)) _ _ h4 hsm (fun d _ _ => rfl) rfl rfl
  have h5o := h5.tk o9 (by rw [hsm5.1 0 11 (by decide) (by decide) (by decide) (by omega)]; exact ho9)
  have e32 : (m_jl t o9 16 0 (m_j1 t o9 (m_s2 t 1 a))).1 32 t = (m_s2 t 1 a).1 32 t := hsm5.1 32 t (by decide) (by decide) (by decide) (by omega)
  have e27 : (m_jl t o9 16 0 (m_j1 t o9 (m_s2 t 1 a))).1 27 o9 = a.1 27 o9 := hsm5.1 27 o9 (by decide) (by decide) (by decide) (by omega)
  have e26 : (m_jl t o9 16 0 (m_j1 t o9 (m_s2 t 1 a))).2 26 o9 = a.2 26 o9 := hsm5.2 26 o9 (by decide) (by decide) (by decide) (by decide)
  have qs := s2_v1 htt.po.1.1 h1 htt.po.1.2
  refine kk_aload_n (pc := 183) hX dX0_joins_183 rfl ?_
  refine kk_getR (pc := 184) hX (x := some (β + 5000 + 20 * t + 7)) fl_X0_253_29 dX0_joins_184 hk.k.k0 rfl hk.l.pi ?_
  refine kk_aload_n (pc := 187) hX dX0_joins_187 rfl ?_
  refine kk_getR (pc := 188) hX (x := some (β + 5000 + 20 * o9 + 1)) fl_X0_257_29 dX0_joins_188 ho.k.k0 rfl ho.l.re ?_
  refine kk_getR (pc := 191) hX (x := some (β + 5000 + 20 * o9 + 2)) fl_X0_260_30 dX0_joins_191 ho.k.k1 rfl ho.l.r0 ?_
  refine kk_iconst (pc := 194) hX (v := 0) dX0_joins_194 (by decide) ?_
  refine kk_lald (pc := 195) hX 0 dX0_joins_195 ho.k.k2 rfl rfl ⟨by decide, by decide⟩ ?_
  refine kk_topL (cr_nu ((m_jl t o9 16 0 (m_j1 t o9 (m_s2 t 1 a))).1 27 o9) ((m_jl t o9 16 0 (m_j1 t o9 (m_s2 t 1 a))).2 26 o9)) h5o.c.rn ?_
  refine kk_aload_n (pc := 196) hX dX0_joins_196 rfl ?_
  refine kk_getR (pc := 197) hX (x := some (β + 5000 + 20 * o9 + 1)) fl_X0_257_29 dX0_joins_197 ho.k.k0 rfl ho.l.re ?_
  refine kk_getR (pc := 200) hX (x := some (β + 5000 + 20 * o9 + 3)) fl_X0_263_30 dX0_joins_200 ho.k.k1 rfl ho.l.r1 ?_
  refine kk_iconst (pc := 203) hX (v := 0) dX0_joins_203 (by decide) ?_
  refine kk_aald (pc := 204) hX (x := (cr_hr β ((m_jl t o9 16 0 (m_j1 t o9 (m_s2 t 1 a))).1 27 o9) ((m_jl t o9 16 0 (m_j1 t o9 (m_s2 t 1 a))).2 26 o9))) 0 dX0_joins_204 ho.k.k3 (by decide) rfl ⟨by decide, by decide⟩ h5o.c.rh ?_
  refine kk_callV (pc := 205) hX (v_cput X.1 _ _ _ _ h5 (by rw [hsm5.1 0 11 (by decide) (by decide) (by decide) (by omega)]; exact ht) (by rw [e32]; exact qs.2) ((m_jl t o9 16 0 (m_j1 t o9 (m_s2 t 1 a))).2 26 o9) ((m_jl t o9 16 0 (m_j1 t o9 (m_s2 t 1 a))).1 27 o9) _ _ rfl rfl (by rw [e32, qs.1]; have := htt.po.1.2; omega) (by rw [e27, e26]; exact cr_hk hT (fun u hu => (h.tk u hu).k.k0) hoo.hr.2)) dX0_joins_205 (lw_V q1185 q1062 q1063 q92 q1064) rfl ⟨by decide +kernel, by decide +kernel, by show _ = some (2 : Nat); decide +kernel⟩ ⟨Nat.le_of_ble_eq_true rfl, Nat.le_of_ble_eq_true rfl, Nat.le_of_ble_eq_true rfl, Nat.le_of_ble_eq_true rfl, Nat.le_of_ble_eq_true rfl⟩ (fun q => by cases q) hk.k.k7 jc_31 rfl (fun _ _ I6 L6 r6 hP => ?_) jj_kno
  obtain ⟨rfl, rfl, h6⟩ := hP
  refine kk_vret (pc := 208) hX dX0_joins_208 hr ⟨Nat.le_refl _, Nat.le_refl _⟩ ?_
  refine ⟨rfl, rfl, ?_⟩
  unfold m_join
  rw [if_neg (show ¬ (m_s2 t 1 a).1 15 o9 = 3 from fun z => absurd (hso.symm.trans z) (by decide))]
  exact h6

theorem v_cjoinX (G : jj_G) (τ : jj_T) (I : jj_I) (L : jj_L) (r : jj_R) {β : Nat} {ss : List Nat} {e N : Nat → Nat} {ρ : jm} {pl : Nat → Int32} {t : Nat} {a : jm} (h : cr_rel β ss e N ρ pl (m_s2 t 1 a) τ I L r) (hv : m_inv a) (ht : t < nv (a.1 0 11)) (o9 : Nat) (ho9 : o9 < nv (a.1 0 11)) (hto : o9 ≠ t) (h0 : a.1 15 t = 0) (h1 : 1 ≤ nv (a.1 32 t)) (hso : a.1 15 o9 = 3) (q : Nat) (hq7 : τ q = none ∧ ¬ (1 ≤ q ∧ q ≤ 6)) (hq9 : β + 10000 ≤ q) : kk_M G yX0_joins (ws_ yX0_joins cX0_joins 5 none) { frames := 5, cells := 1, slots := 7, locals := 112 } [jR (some 10), jR (some (β + 5000 + 20 * t)), jR (some (β + 5000 + 20 * o9))] true τ I L r jj_noP (fun a9 τ' I' L' r' => a9 = q ∧ I' q 6 = (m_j1 t o9 (m_s2 t 1 a)).1 16 o9 ∧ cr_rel β ss e N ρ pl (m_j1 t o9 (m_s2 t 1 a)) τ' I' L' r') := by
  refine kk_intro "BranchCells" (by decide) rfl (Nat.le_of_ble_eq_true rfl) ?_
  intro X hG hX hr hN hC hF hAd
  have ho := h.tk o9 ho9
  have hk := h.tk t ht
  have hT := hv.T
  have hoo := hv.tk o9 ho9
  have htt := hv.tk t ht
  have h4o : ¬ a.1 15 o9 = 4 := by rw [hso]; decide
  have hpt : nv (a.1 22 t) ∈ ss := h.ss.pr t ht (show ¬ a.1 15 t = 4 by rw [h0]; decide)
  have hpo : nv (a.1 22 o9) ∈ ss := h.ss.pr o9 ho9 h4o
  have hro : cr_in ss (a.1 23 o9) := h.ss.ro o9 ho9 h4o
  have hrc := hoo.rc h4o
  have hrun : a.1 0 10 = 1 := by
    rcases hv.ru with z | z
    · have := hv.r0 z
      rw [this] at ht
      exact absurd ht (Nat.not_lt_zero _)
    · exact z
  have hki : ∀ c, c < 16 → jb (a.1 9 c) 6 ∧ (3 ≤ nv (a.1 9 c) → nv (a.1 9 c) - 3 < nv (a.1 0 4) ∧ m_right (nv (a.1 9 c) - 3) a = true) := fun c hc => ⟨(hv.ki c hc).1, fun z => ⟨(hv.ki c hc).2 z, (hv.rk hrun).2 c hc z⟩⟩
  have hst : r (β + 5000 + 20 * o9) 10 = some 3 := (cr_st_3 (show cr_st (a.1 15 o9) (r (β + 5000 + 20 * o9) 10) (I (β + 5000 + 20 * o9) 11) from ho.v.st) ((cr_st_g (show cr_st (a.1 15 o9) (r (β + 5000 + 20 * o9) 10) (I (β + 5000 + 20 * o9) 11) from ho.v.st)).mpr h4o)).mpr hso
  refine kk_aload_n (pc := 0) hX dX0_joins_0 rfl ?_
  refine kk_iconst (pc := 1) hX (v := 1) dX0_joins_1 (by decide) ?_
  refine kk_putZ (pc := 2) hX fl_X0_197_29 dX0_joins_2 ho.k.k0 rfl rfl (by decide) ?_
  refine kk_iconst (pc := 5) hX (v := 0) dX0_joins_5 (by decide) ?_
  refine kk_istore_n (pc := 6) hX dX0_joins_6 (by decide) ?_
  have hG := at_gone h ho9 (Or.inr hso)
  refine kk_lss [(0, jR (some 10)), (1, jR (some (β + 5000 + 20 * t))), (2, jR (some (β + 5000 + 20 * o9))), (3, jI (nI 0))] ⟨rfl, rfl, rfl, rfl, trivial⟩ ?_
  refine v_joins_a hX hto (nv (a.1 34 o9)) hoo.po.2.2 _ (fun I3 L3 h3 => ?_) (nv (a.1 34 o9)) 0 (m_u (m_s2 t 1 a) 15 o9 4) _ _ hG (Nat.zero_add _) ht ho9 htt.po.2.1 hoo.po.2.1 rfl
  have q24 : ∀ u, (m_tls t o9 (nv (a.1 34 o9)) 0 (m_u (m_s2 t 1 a) 15 o9 4)).2 24 u = a.2 24 u := fun u => m_tls_2 (by decide) _ _ _
  have h3t : t < nv ((m_tls t o9 (nv (a.1 34 o9)) 0 (m_u (m_s2 t 1 a) 15 o9 4)).1 0 11) := by rw [m_tls_1 (by decide)]; exact ht
  have h3o : o9 < nv ((m_tls t o9 (nv (a.1 34 o9)) 0 (m_u (m_s2 t 1 a) 15 o9 4)).1 0 11) := by rw [m_tls_1 (by decide)]; exact ho9
  refine kk_aload_n (pc := 31) hX dX0_joins_31 rfl ?_
  refine kk_ldc2 (pc := 32) hX (v := 31) q962 dX0_joins_32 ?_
  refine kk_aload_n (pc := 35) hX dX0_joins_35 rfl ?_
  refine kk_getL (pc := 36) hX fl_X0_213_29 dX0_joins_36 hk.k.k0 rfl ?_
  refine kk_topL (a.2 24 t) ((h3.tk t h3t).v.mk.trans (q24 t)) ?_
  refine kk_lmul (pc := 39) hX dX0_joins_39 ?_
  refine kk_aload_n (pc := 40) hX dX0_joins_40 rfl ?_
  refine kk_getL (pc := 41) hX fl_X0_213_29 dX0_joins_41 ho.k.k0 rfl ?_
  refine kk_topL (a.2 24 o9) ((h3.tk o9 h3o).v.mk.trans (q24 o9)) ?_
  refine kk_ladd (pc := 44) hX dX0_joins_44 ?_
  refine kk_putL (pc := 45) hX fl_X0_213_29 dX0_joins_45 hk.k.k0 rfl ?_
  have h4 := at_mk h3 h3t (31 * a.2 24 t + a.2 24 o9)
  have e1 : m_v (m_tls t o9 (nv (a.1 34 o9)) 0 (m_u (m_s2 t 1 a) 15 o9 4)) 24 t (31 * a.2 24 t + a.2 24 o9) = m_j1 t o9 (m_s2 t 1 a) := (m_tls_c _ _ _).symm
  rw [e1] at h4
  have hsm : cj_sm (m_s2 t 1 a) (m_j1 t o9 (m_s2 t 1 a)) := m_tls_sm _ _ _ ((cj_sm.rf.u (by omega)).v (by omega))
  have ho4 := h4.tk o9 (by rw [hsm.1 0 11 (by decide) (by decide) (by decide) (by omega)]; exact ho9)
  refine kk_aload_n (pc := 48) hX dX0_joins_48 rfl ?_
  refine kk_getR (pc := 49) hX (x := some 3) fl_X0_217_29 dX0_joins_49 ho.k.k0 rfl hst ?_
  refine kk_gets3 (pc := 52) hX dX0_joins_52 q1168 ?_
  refine kk_acmp_ne (pc := 55) hX 70 ⟨by simp, by simp⟩ ⟨by simp, by simp⟩ dX0_joins_55 rfl (fun q => absurd rfl q) (fun _ => ?_)
  refine kk_new (pc := 58) hX q ⟨hq7.1, hq7.2⟩ (hF rfl) dX0_joins_58 jc_32 q961 q963 q95 (by decide) ⟨Nat.le_of_ble_eq_true rfl, Nat.le_of_ble_eq_true rfl⟩ ?_
  refine kk_dup (pc := 61) hX dX0_joins_61 rfl ?_
  refine kk_aload_n (pc := 62) hX dX0_joins_62 rfl ?_
  refine kk_getI (pc := 63) hX fl_X0_226_29 dX0_joins_63 (Eq.trans (jj_tn (by omega)) ho.k.k0) rfl ?_
  refine kk_top ((m_j1 t o9 (m_s2 t 1 a)).1 16 o9) (Eq.trans (congrFun (jj_zn (by omega)) _) ho4.v.wy) ?_
  refine kk_callI (pc := 66) hX (v_Fi X.1 _ _ _ _ q jj_ts ((m_j1 t o9 (m_s2 t 1 a)).1 16 o9)) dX0_joins_66 (lw_meth q1001) ⟨q999, q1000, q95, rfl⟩ ⟨by decide +kernel, by decide +kernel, by show _ = some (1 : Nat); decide +kernel⟩ ⟨Nat.le_of_ble_eq_true rfl, Nat.le_of_ble_eq_true rfl, Nat.le_of_ble_eq_true rfl, Nat.le_of_ble_eq_true rfl, Nat.le_of_ble_eq_true rfl⟩ (fun q => by cases q) rfl (jj_keq ?_) jj_kno
  refine kk_athrow (pc := 69) hX dX0_joins_69 jj_ts ?_
  exact kk_out (pc := 69) hX hN ⟨Nat.le_refl _, Nat.le_refl _⟩ (⟨rfl, jj_us, (cr_rel.gar h4 hq7.1 hq9 (fun b hb => jj_tn hb) (fun b hb => (jj_ua hb).trans (jj_zn hb)) (fun b hb => jj_zn hb) (fun b hb => (jj_ua hb).trans ((jj_ua hb).trans ((jj_ua hb).trans ((jj_ua hb).trans ((jj_ua hb).trans ((jj_ua hb).trans ((jj_ua hb).trans (jj_zn hb)))))))))⟩)
