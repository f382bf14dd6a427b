set_option maxRecDepth 100000
theorem kk_xs {b : Nat} (h : 7 ≤ b) : kk_x (some b) := ⟨fun z => by cases z; omega, fun z => by cases z; omega⟩
theorem kk_sr {β : Nat} (h : 1000 ≤ β) {x : Int32} : kk_x (cr_sr β x) := by
  unfold cr_sr
  split
  · exact ⟨by simp, by simp⟩
  · exact kk_xs (by omega)
theorem cr_sr_i {β : Nat} {x y : Int32} (hx : x = -4 ∨ x = nI (nv x)) (hy : y = -4 ∨ y = nI (nv y)) : cr_sr β x = cr_sr β y ↔ x = y := by
  refine ⟨fun h => ?_, fun h => by rw [h]⟩
  unfold cr_sr at h
  by_cases h1 : x = -4
  · by_cases h2 : y = -4
    · rw [h1, h2]
    · rw [if_pos h1, if_neg h2] at h; cases h
  · by_cases h2 : y = -4
    · rw [if_neg h1, if_pos h2] at h; cases h
    · rw [if_neg h1, if_neg h2] at h
      have : nv x = nv y := by injection h with h; omega
      rw [hx.resolve_left h1, hy.resolve_left h2, this]
theorem bt_sh {W : Int32} {c : Nat} (hc : c < 16) : ((W >>> (nI c &&& 31)) &&& 1) = 1 ↔ bt W c = true := by
  rw [and1_iff, b_sshr c (by omega) _ (by decide), if_pos (by omega), Nat.add_zero]
theorem bt_has {σ : jm} {s c : Nat} (hc : c < 16) : bt (nI (cr_sb σ s 16)) c = true ↔ ¬ σ.1 39 (16 * s + c) = 0 := by
  rw [bt_nI (by omega), cs_div σ s 16 c hc, decide_eq_true_iff]
  by_cases h : σ.1 39 (16 * s + c) = 0
  · rw [if_pos h]; exact ⟨fun z => absurd z (by decide), fun z => absurd h z⟩
  · rw [if_neg h]; exact ⟨fun _ => h, fun _ => rfl⟩
theorem m_wro_cg {c : Nat} {rt : Int32} {σ σ' : jm} (h38 : ∀ s, σ'.1 38 s = σ.1 38 s) (h39 : ∀ s, σ'.1 39 (16 * s + c) = σ.1 39 (16 * s + c)) : ∀ (n : Nat) (s w : Int32), m_wro c rt σ' n s w = m_wro c rt σ n s w := by
  intro n
  induction n with
  | zero => intro s w; rfl
  | succ n ih =>
    intro s w
    unfold m_wro
    rw [h38, h39, ih]
theorem cj_mof1 {j : Nat} {b u w : Int64} {σ : jm} : (m_mof j b u w σ).2.1 = σ.1 := by
  match j with
  | 0 => rfl
  | 1 => rfl
  | 2 => rfl
  | j + 3 => rfl
theorem cj_mof2 {j : Nat} {b u w : Int64} {σ : jm} {k i : Nat} (hk : k ≠ 10) : (m_mof j b u w σ).2.2 k i = σ.2 k i := by
  match j with
  | 0 => rfl
  | 1 => rfl
  | 2 => rfl
  | j + 3 =>
    show m_tl 10 _ _ b u w _ 0 0 σ.2 k i = _
    rw [m_tl_o 10 _ _ b u w hk]
theorem cr_rel.mp {β : Nat} {ss : List Nat} {e N : Nat → Nat} {ρ : jm} {pl : Nat → Int32} {σ : jm} {τ : jj_T} {I : jj_I} {L L' : jj_L} {r : jj_R} (h : cr_rel β ss e N ρ pl σ τ I L r) {q : Nat} (hq : 200 ≤ q ∧ q < 300) {M : jj_L} (hL : ∀ x, x ≠ q → L' x = L x) (hM : ∀ k j, k ≠ 10 → M k j = σ.2 k j) : cr_rel β ss e N ρ pl (σ.1, M) τ I L' r := by
  have hb := h.e.be
  have A : ∀ a n, (∀ x, a ≤ x → x < a + n → x ≠ q) → cr_ag a n τ I L r τ I L' r := fun a n hz x h1 h2 => ⟨rfl, rfl, hL x (hz x h1 h2), rfl⟩
  refine ⟨h.ro, h.sc, h.lb, h.lm, h.lt, h.ls, h.bl, h.mg, fun u hu => (h.tk u hu).cg (A _ _ (by omega)) (fun k j hk => ⟨rfl, hM k j (by unfold cr_tcell at hk; omega)⟩) rfl (h.po u hu), fun s hs => (h.sg s hs).cg (A _ _ (by omega)) (fun _ => rfl) (fun _ _ => rfl) (fun c _ => hM 40 _ (by decide)), h.fr, ⟨h.ss.so, h.ss.lt, h.ss.un, h.ss.pr, h.ss.ro⟩, h.e, h.mo.cg (A 300 42 (by omega)), h.po, h.bd⟩
theorem mc_eq {t c : Nat} {v : Int64} {σ σq : jm} (h : σq.1 = σ.1) : m_u (m_v (m_u σq 39 (16 * nv (σ.1 22 t) + c) 1) 40 (16 * nv (σ.1 22 t) + c) v) 0 35 (σ.1 0 35 + 1) = m_mc (m_write t c v σq) := by
  have e : (m_write t c v σq).1 0 35 = σ.1 0 35 := by
    unfold m_write
    rw [mv_1, mu_n (Or.inl (by decide)), h]
  unfold m_mc
  rw [e]
  unfold m_write
  rw [h]
theorem v_joins_b {X : jj_X} {o : jj_T} {mc ms : Nat} (hX : kk_ok X cX0_joins "BranchCells" 5 5 112 mc ms) {Q : State → Prop} {τ : jj_T} {I : jj_I} {L : jj_L} {r : jj_R} {β : Nat} {ss : List Nat} {e N : Nat → Nat} {ρ : jm} {pl : Nat → Int32} {σ : jm} {t o9 : Nat} (h : cr_rel β ss e N ρ pl σ τ I L r) (ho9 : o9 < nv (σ.1 0 11)) (rt : Int32) (hrt : rt = -4 ∨ rt = nI (nv rt)) (hrr : σ.1 23 o9 = rt) (wf : Nat → Int32) (K : ∀ W : Int32, (∀ c, c < 16 → (bt W c = true ↔ ¬ wf c = 0)) → kk_J X o Q 0 0 105 [(0, jR (some 10)), (1, jR (some (β + 5000 + 20 * t))), (2, jR (some (β + 5000 + 20 * o9))), (3, jI W)] [] τ I L r) : ∀ (n : Nat) (x W : Int32) (w : Nat → Int32), m_rc σ rt n x → cr_in ss x → (∀ c, c < 16 → (bt W c = true ↔ ¬ w c = 0)) → (∀ c, c < 16 → m_wro c rt σ (n + 1) x (w c) = wf c) → kk_J X o Q 0 0 78 [(0, jR (some 10)), (1, jR (some (β + 5000 + 20 * t))), (2, jR (some (β + 5000 + 20 * o9))), (3, jI W), (4, jR (cr_sr β x))] [] τ I L r := by
  have ho := h.tk o9 ho9
  have hbe := h.e.be
  intro n
  induction n with
  | zero =>
    intro x W w hx hi hW hwf
    have hx : x = rt := hx
    refine kk_aload (pc := 78) hX dX0_joins_78 rfl ?_
    refine kk_aload_n (pc := 80) hX dX0_joins_80 rfl ?_
    refine kk_getR (pc := 81) hX (x := (cr_sr β rt)) fl_X0_229_29 dX0_joins_81 ho.k.k0 rfl (ho.f.ro.trans (congrArg (cr_sr β) hrr)) ?_
    refine kk_acmp_eq (pc := 84) hX 105 (kk_sr hbe) (kk_sr hbe) dX0_joins_84 rfl (fun _ => ?_) (fun q => absurd (congrArg (cr_sr β) hx) q)
    refine kk_lss [(0, jR (some 10)), (1, jR (some (β + 5000 + 20 * t))), (2, jR (some (β + 5000 + 20 * o9))), (3, jI W)] ⟨rfl, rfl, rfl, rfl, trivial⟩ ?_
    exact K W fun c hc => by rw [← hwf c hc]; unfold m_wro; rw [if_pos hx]; exact hW c hc
  | succ n ih =>
    intro x W w hrc hi hW hwf
    by_cases hx : x = rt
    ·
      refine kk_aload (pc := 78) hX dX0_joins_78 rfl ?_
      refine kk_aload_n (pc := 80) hX dX0_joins_80 rfl ?_
      refine kk_getR (pc := 81) hX (x := (cr_sr β rt)) fl_X0_229_29 dX0_joins_81 ho.k.k0 rfl (ho.f.ro.trans (congrArg (cr_sr β) hrr)) ?_
      refine kk_acmp_eq (pc := 84) hX 105 (kk_sr hbe) (kk_sr hbe) dX0_joins_84 rfl (fun _ => ?_) (fun q => absurd (congrArg (cr_sr β) hx) q)
      refine kk_lss [(0, jR (some 10)), (1, jR (some (β + 5000 + 20 * t))), (2, jR (some (β + 5000 + 20 * o9))), (3, jI W)] ⟨rfl, rfl, rfl, rfl, trivial⟩ ?_
      exact K W fun c hc => by rw [← hwf c hc]; unfold m_wro; rw [if_pos hx]; exact hW c hc
    · obtain ⟨h1, h2, h3, h4⟩ := hrc.resolve_left hx
      have hx4 : ¬ x = -4 := by rw [h1]; exact nI_n4 (by omega)
      have hm := hi.resolve_left hx4
      have hs := h.sg _ (h.ss.lt _ hm)
      have hne : ¬ some (β + 1000 + 10 * nv x) = cr_sr β rt := fun z => hx ((cr_sr_i (Or.inr h1) hrt).mp ((if_neg hx4).trans z))
      rw [show cr_sr β x = some (β + 1000 + 10 * nv x) from if_neg hx4]
      refine kk_aload (pc := 78) hX dX0_joins_78 rfl ?_
      refine kk_aload_n (pc := 80) hX dX0_joins_80 rfl ?_
      refine kk_getR (pc := 81) hX (x := (cr_sr β rt)) fl_X0_229_29 dX0_joins_81 ho.k.k0 rfl (ho.f.ro.trans (congrArg (cr_sr β) hrr)) ?_
      refine kk_acmp_eq (pc := 84) hX 105 (kk_xs (by omega)) (kk_sr hbe) dX0_joins_84 rfl (fun q => absurd q hne) (fun _ => ?_)
      refine kk_iload_n (pc := 87) hX dX0_joins_87 rfl ?_
      refine kk_aload (pc := 88) hX dX0_joins_88 rfl ?_
      refine kk_getI (pc := 90) hX fl_X0_232_28 dX0_joins_90 hs.k0 rfl ?_
      refine kk_top (nI (cr_sb σ (nv x) 16)) hs.ha ?_
      refine kk_ior (pc := 93) hX dX0_joins_93 ?_
      refine kk_istore_n (pc := 94) hX dX0_joins_94 (by decide) ?_
      refine kk_aload (pc := 95) hX dX0_joins_95 rfl ?_
      refine kk_getR (pc := 97) hX (x := (cr_sr β (σ.1 38 (nv x)))) fl_X0_235_28 dX0_joins_97 hs.k0 rfl (hs.be hm) ?_
      refine kk_astore (pc := 100) hX dX0_joins_100 (by decide) ?_
      refine kk_goto (pc := 102) hX 78 dX0_joins_102 rfl ?_
      refine kk_lss [(0, jR (some 10)), (1, jR (some (β + 5000 + 20 * t))), (2, jR (some (β + 5000 + 20 * o9))), (3, jI (W ||| nI (cr_sb σ (nv x) 16))), (4, jR (cr_sr β (σ.1 38 (nv x))))] ⟨rfl, rfl, rfl, rfl, rfl, trivial⟩ ?_
      refine ih _ _ (fun c => if w c = 0 then (if σ.1 39 (16 * nv x + c) = 0 then 0 else 1) else 1) h4 (h.ss.un _ hm) (fun c hc => ?_) (fun c hc => ?_)
      · rw [b_or, Bool.or_eq_true, hW c hc, bt_has hc]
        by_cases w0 : w c = 0
        · by_cases f0 : σ.1 39 (16 * nv x + c) = 0
          · simp [w0, f0]
          · simp [w0, f0]
        · simp [w0]
      · rw [← hwf c hc]
        conv => rhs; unfold m_wro
        rw [if_neg hx]

theorem v_cmv0 (G : jj_G) (τ : jj_T) (I : jj_I) (L : jj_L) (r : jj_R) {β : Nat} {ss : List Nat} {e N : Nat → Nat} {ρ : jm} {pl : Nat → Int32} {σ : jm} (h : cr_rel β ss e N ρ pl σ τ I L r) (c : Nat) (hc : c < 16) (hj : σ.1 9 c = 0) (b u w : Int64) : kk_M G yX0_mergedValue (ws_ yX0_mergedValue cX0_mergedValue 8 (some .long)) { frames := 3, cells := 0, slots := 0, locals := 75 } [jR (some 10), jI (nI c), jL b, jL u, jL w] false τ I L r (jj_eq (some (jL w)) τ I L r) jj_no := by
  refine kk_intro "BranchCells" (by decide) rfl (Nat.le_of_ble_eq_true rfl) ?_
  intro X hG hX hr hN hC hF hAd
  refine kk_aload_n (pc := 0) hX dX0_mergedValue_0 rfl ?_
  refine kk_getR (pc := 1) hX (x := some 12) fl_X0_106_0 dX0_mergedValue_1 h.ro.k0 rfl h.ro.l3 ?_
  refine kk_iload_n (pc := 4) hX dX0_mergedValue_4 rfl ?_
  refine kk_iald (pc := 5) hX c dX0_mergedValue_5 h.ro.k2 rfl rfl ⟨hc, by omega⟩ ?_
  refine kk_top 0 ((h.sc.ki c hc).trans hj) ?_
  refine kk_tabIn (pc := 6) hX 32 dX0_mergedValue_6 (by decide) (by decide) rfl rfl ?_
  refine kk_lload (pc := 32) hX dX0_mergedValue_32 rfl ?_
  exact kk_lret (pc := 34) hX dX0_mergedValue_34 hr ⟨Nat.le_refl _, Nat.le_refl _⟩ (⟨rfl, rfl, rfl, rfl, rfl⟩)

theorem v_cmv1 (G : jj_G) (τ : jj_T) (I : jj_I) (L : jj_L) (r : jj_R) {β : Nat} {ss : List Nat} {e N : Nat → Nat} {ρ : jm} {pl : Nat → Int32} {σ : jm} (h : cr_rel β ss e N ρ pl σ τ I L r) (c : Nat) (hc : c < 16) (hj : σ.1 9 c = 1) (b u w : Int64) : kk_M G yX0_mergedValue (ws_ yX0_mergedValue cX0_mergedValue 8 (some .long)) { frames := 3, cells := 0, slots := 0, locals := 75 } [jR (some 10), jI (nI c), jL b, jL u, jL w] false τ I L r (jj_eq (some (jL (u + w - b))) τ I L r) jj_no := by
  refine kk_intro "BranchCells" (by decide) rfl (Nat.le_of_ble_eq_true rfl) ?_
  intro X hG hX hr hN hC hF hAd
  refine kk_aload_n (pc := 0) hX dX0_mergedValue_0 rfl ?_
  refine kk_getR (pc := 1) hX (x := some 12) fl_X0_106_0 dX0_mergedValue_1 h.ro.k0 rfl h.ro.l3 ?_
  refine kk_iload_n (pc := 4) hX dX0_mergedValue_4 rfl ?_
  refine kk_iald (pc := 5) hX c dX0_mergedValue_5 h.ro.k2 rfl rfl ⟨hc, by omega⟩ ?_
  refine kk_top 1 ((h.sc.ki c hc).trans hj) ?_
  refine kk_tabIn (pc := 6) hX 35 dX0_mergedValue_6 (by decide) (by decide) rfl rfl ?_
  refine kk_lload (pc := 35) hX dX0_mergedValue_35 rfl ?_
  refine kk_lload (pc := 37) hX dX0_mergedValue_37 rfl ?_
  refine kk_ladd (pc := 39) hX dX0_mergedValue_39 ?_
  refine kk_lload_n (pc := 40) hX dX0_mergedValue_40 rfl ?_
  refine kk_lsub (pc := 41) hX dX0_mergedValue_41 ?_
  exact kk_lret (pc := 42) hX dX0_mergedValue_42 hr ⟨Nat.le_refl _, Nat.le_refl _⟩ (⟨rfl, rfl, rfl, rfl, rfl⟩)

theorem v_cmv2 (G : jj_G) (τ : jj_T) (I : jj_I) (L : jj_L) (r : jj_R) {β : Nat} {ss : List Nat} {e N : Nat → Nat} {ρ : jm} {pl : Nat → Int32} {σ : jm} (h : cr_rel β ss e N ρ pl σ τ I L r) (c : Nat) (hc : c < 16) (hj : σ.1 9 c = 2) (b u w : Int64) : kk_M G yX0_mergedValue (ws_ yX0_mergedValue cX0_mergedValue 8 (some .long)) { frames := 3, cells := 0, slots := 0, locals := 75 } [jR (some 10), jI (nI c), jL b, jL u, jL w] false τ I L r (jj_eq (some (jL ((u ||| (w &&& (b ^^^ -1))) &&& ((b &&& (w ^^^ -1)) ^^^ -1)))) τ I L r) jj_no := by
  refine kk_intro "BranchCells" (by decide) rfl (Nat.le_of_ble_eq_true rfl) ?_
  intro X hG hX hr hN hC hF hAd
  refine kk_aload_n (pc := 0) hX dX0_mergedValue_0 rfl ?_
  refine kk_getR (pc := 1) hX (x := some 12) fl_X0_106_0 dX0_mergedValue_1 h.ro.k0 rfl h.ro.l3 ?_
  refine kk_iload_n (pc := 4) hX dX0_mergedValue_4 rfl ?_
  refine kk_iald (pc := 5) hX c dX0_mergedValue_5 h.ro.k2 rfl rfl ⟨hc, by omega⟩ ?_
  refine kk_top 2 ((h.sc.ki c hc).trans hj) ?_
  refine kk_tabIn (pc := 6) hX 43 dX0_mergedValue_6 (by decide) (by decide) rfl rfl ?_
  refine kk_lload (pc := 43) hX dX0_mergedValue_43 rfl ?_
  refine kk_lload (pc := 45) hX dX0_mergedValue_45 rfl ?_
  refine kk_lload_n (pc := 47) hX dX0_mergedValue_47 rfl ?_
  refine kk_ldc2 (pc := 48) hX (v := (-1)) q661 dX0_mergedValue_48 ?_
  refine kk_lxor (pc := 51) hX dX0_mergedValue_51 ?_
  refine kk_land (pc := 52) hX dX0_mergedValue_52 ?_
  refine kk_lor (pc := 53) hX dX0_mergedValue_53 ?_
  refine kk_lload_n (pc := 54) hX dX0_mergedValue_54 rfl ?_
  refine kk_lload (pc := 55) hX dX0_mergedValue_55 rfl ?_
  refine kk_ldc2 (pc := 57) hX (v := (-1)) q661 dX0_mergedValue_57 ?_
  refine kk_lxor (pc := 60) hX dX0_mergedValue_60 ?_
  refine kk_land (pc := 61) hX dX0_mergedValue_61 ?_
  refine kk_ldc2 (pc := 62) hX (v := (-1)) q661 dX0_mergedValue_62 ?_
  refine kk_lxor (pc := 65) hX dX0_mergedValue_65 ?_
  refine kk_land (pc := 66) hX dX0_mergedValue_66 ?_
  exact kk_lret (pc := 67) hX dX0_mergedValue_67 hr ⟨Nat.le_refl _, Nat.le_refl _⟩ (⟨rfl, rfl, rfl, rfl, rfl⟩)

theorem v_cmv3 (G : jj_G) (τ : jj_T) (I : jj_I) (L : jj_L) (r : jj_R) {β : Nat} {ss : List Nat} {e N : Nat → Nat} {ρ : jm} {pl : Nat → Int32} {σ : jm} (h : cr_rel β ss e N ρ pl σ τ I L r) (hp : m_pr σ) (c : Nat) (hc : c < 16) (m : Nat) (hj : σ.1 9 c = nI (m + 3)) (hm : m < nv (σ.1 0 4)) (hR : m_right m σ = true) (b u w : Int64) : kk_M G yX0_mergedValue (ws_ yX0_mergedValue cX0_mergedValue 8 (some .long)) { frames := 3, cells := 0, slots := 0, locals := 75 } [jR (some 10), jI (nI c), jL b, jL u, jL w] false τ I L r (fun v' τ' I' L' r' => v' = some (jL (m_mof (m + 3) b u w σ).1) ∧ τ' = τ ∧ I' = I ∧ r' = r ∧ cr_rel β ss e N ρ pl (m_mof (m + 3) b u w σ).2 τ I L' r) jj_no := by
  refine kk_intro "BranchCells" (by decide) rfl (Nat.le_of_ble_eq_true rfl) ?_
  intro X hG hX hr hN hC hF hAd
  have hb := h.mg m hm
  have hm4 := hp.me.2
  refine kk_aload_n (pc := 0) hX dX0_mergedValue_0 rfl ?_
  refine kk_getR (pc := 1) hX (x := some 12) fl_X0_106_0 dX0_mergedValue_1 h.ro.k0 rfl h.ro.l3 ?_
  refine kk_iload_n (pc := 4) hX dX0_mergedValue_4 rfl ?_
  refine kk_iald (pc := 5) hX c dX0_mergedValue_5 h.ro.k2 rfl rfl ⟨hc, by omega⟩ ?_
  refine kk_top (nI (m + 3)) ((h.sc.ki c hc).trans hj) ?_
  refine kk_tabOut (pc := 6) hX 68 dX0_mergedValue_6 (Or.inr (by rw [nI_toInt (by omega)]; omega)) rfl ?_
  refine kk_aload_n (pc := 68) hX dX0_mergedValue_68 rfl ?_
  refine kk_getR (pc := 69) hX (x := some 14) fl_X0_103_0 dX0_mergedValue_69 h.ro.k0 rfl h.ro.l2 ?_
  refine kk_aload_n (pc := 72) hX dX0_mergedValue_72 rfl ?_
  refine kk_getR (pc := 73) hX (x := some 12) fl_X0_106_0 dX0_mergedValue_73 h.ro.k0 rfl h.ro.l3 ?_
  refine kk_iload_n (pc := 76) hX dX0_mergedValue_76 rfl ?_
  refine kk_iald (pc := 77) hX c dX0_mergedValue_77 h.ro.k2 rfl rfl ⟨hc, by omega⟩ ?_
  refine kk_top (nI (m + 3)) ((h.sc.ki c hc).trans hj) ?_
  refine kk_iconst (pc := 78) hX (v := 3) dX0_mergedValue_78 (by decide) ?_
  refine kk_isub (pc := 79) hX dX0_mergedValue_79 ?_
  refine kk_top (nI ((m + 3) - 3)) (ix_sub rfl rfl (by omega)) ?_
  rw [Nat.add_sub_cancel]
  refine kk_callF (pc := 80) hX (v_get X.1 _ _ _ _ 14 m h.lm.k0 (nv (σ.1 0 4)) h.lm.sz hm (e 14) (N 14) (some (200 + 10 * m)) h.lm.l1 h.lm.ke (by have := h.lm.le; omega) h.lm.le (by have := h.lm.lt; omega) (h.lm.el m hm)) dX0_mergedValue_80 (lw_app (jj_wf q603 q606 q608 q53) (lw_meth q610)) (by decide +kernel) ⟨by decide +kernel, by decide +kernel, by show _ = some (1 : Nat); decide +kernel⟩ ⟨Nat.le_of_ble_eq_true rfl, Nat.le_of_ble_eq_true rfl, Nat.le_of_ble_eq_true rfl, Nat.le_of_ble_eq_true rfl, Nat.le_of_ble_eq_true rfl⟩ (fun q => by cases q) h.lm.k0 jc_33 rfl (jj_keq ?_) jj_kno
  refine kk_cast (pc := 85) hX dX0_mergedValue_85 jc_27 hb.k0 q625 ?_
  refine kk_lload_n (pc := 88) hX dX0_mergedValue_88 rfl ?_
  refine kk_lload (pc := 89) hX dX0_mergedValue_89 rfl ?_
  refine kk_lload (pc := 91) hX dX0_mergedValue_91 rfl ?_
  refine kk_callV (pc := 93) hX (v_Mtells X.1 _ _ _ _ h hp hm hR b u w) dX0_mergedValue_93 (lw_V q666 q667 q668 q86 q669) rfl ⟨by decide +kernel, by decide +kernel, by show _ = some (3 : Nat); decide +kernel⟩ ⟨Nat.le_of_ble_eq_true rfl, Nat.le_of_ble_eq_true rfl, Nat.le_of_ble_eq_true rfl, Nat.le_of_ble_eq_true rfl, Nat.le_of_ble_eq_true rfl⟩ (fun q => by cases q) hb.k0 jc_27 rfl (jj_keq ?_) jj_kno
  refine kk_lret (pc := 96) hX dX0_mergedValue_96 hr ⟨Nat.le_refl _, Nat.le_refl _⟩ ?_
  refine ⟨congrArg (fun z => some (jL z)) ?_, rfl, rfl, rfl, h.mp (q := 200 + 10 * m + 3) (by omega) (fun x hx => m_tl_o _ _ _ b u w hx _ _ _ _) (fun k j hk => congrFun (m_tl_o 10 _ _ b u w hk _ _ _ _) j)⟩
  exact m_tl_eq _ _ _ _ b u w _ 0 0 L σ.2 (fun i hi => absurd hi (Nat.not_lt_zero _)) hR

theorem v_cmerged (G : jj_G) (τ : jj_T) (I : jj_I) (L : jj_L) (r : jj_R) {β : Nat} {ss : List Nat} {e N : Nat → Nat} {ρ : jm} {pl : Nat → Int32} {σ : jm} (h : cr_rel β ss e N ρ pl σ τ I L r) (hp : m_pr σ) (c : Nat) (hc : c < 16) (hj : jb (σ.1 9 c) 6) (hm3 : 3 ≤ nv (σ.1 9 c) → nv (σ.1 9 c) - 3 < nv (σ.1 0 4) ∧ m_right (nv (σ.1 9 c) - 3) σ = true) (b u w : Int64) : kk_M G yX0_mergedValue (ws_ yX0_mergedValue cX0_mergedValue 8 (some .long)) { frames := 3, cells := 0, slots := 0, locals := 75 } [jR (some 10), jI (nI c), jL b, jL u, jL w] false τ I L r (fun v' τ' I' L' r' => v' = some (jL (m_mof (nv (σ.1 9 c)) b u w σ).1) ∧ τ' = τ ∧ I' = I ∧ r' = r ∧ cr_rel β ss e N ρ pl (m_mof (nv (σ.1 9 c)) b u w σ).2 τ I L' r) jj_no := by
  have e := hj.1
  have c4 : nv (σ.1 9 c) = 0 ∨ nv (σ.1 9 c) = 1 ∨ nv (σ.1 9 c) = 2 ∨ ∃ m, nv (σ.1 9 c) = m + 3 := by
    rcases Nat.lt_or_ge (nv (σ.1 9 c)) 3 with q | q
    · omega
    · exact Or.inr (Or.inr (Or.inr ⟨nv (σ.1 9 c) - 3, by omega⟩))
  rcases c4 with q | q | q | ⟨m, q⟩
  · rw [q] at e ⊢
    refine (v_cmv0 G τ I L r h c hc e b u w).imp ?_ (fun _ _ _ _ _ z => z)
    rintro _ _ _ _ _ ⟨rfl, rfl, rfl, rfl, rfl⟩
    exact ⟨rfl, rfl, rfl, rfl, h⟩
  · rw [q] at e ⊢
    refine (v_cmv1 G τ I L r h c hc e b u w).imp ?_ (fun _ _ _ _ _ z => z)
    rintro _ _ _ _ _ ⟨rfl, rfl, rfl, rfl, rfl⟩
    exact ⟨rfl, rfl, rfl, rfl, h⟩
  · rw [q] at e ⊢
    refine (v_cmv2 G τ I L r h c hc e b u w).imp ?_ (fun _ _ _ _ _ z => z)
    rintro _ _ _ _ _ ⟨rfl, rfl, rfl, rfl, rfl⟩
    exact ⟨rfl, rfl, rfl, rfl, h⟩
  · rw [q] at e hm3
    have h3 := hm3 (by omega)
    rw [Nat.add_sub_cancel] at h3
    rw [q]
    exact v_cmv3 G τ I L r h hp c hc m e h3.1 h3.2 b u w
