set_option maxRecDepth 100000
/-- what the mergers are held to -/
def m_pr (σ : jm) : Prop := (jb (σ.1 0 4) 4) ∧ (∀ i, i < 4 → jb (σ.1 6 i) 12) ∧ (∀ i, i < 48 → jb (σ.1 7 i) 10)
theorem m_pr.me {σ : jm} (h : m_pr σ) : jb (σ.1 0 4) 4 := h.1
theorem m_pr.am {σ : jm} (h : m_pr σ) : ∀ i, i < 4 → jb (σ.1 6 i) 12 := h.2.1
theorem m_pr.ao {σ : jm} (h : m_pr σ) : ∀ i, i < 48 → jb (σ.1 7 i) 10 := h.2.2
theorem m_inv.mpr {σ : jm} (h : m_inv σ) : m_pr σ := ⟨h.me, h.am, h.ao⟩
theorem i3_le (x : Int32) : x ≤ 3 ↔ ¬ 4 ≤ x := by
  rw [Int32.le_iff_toInt_le, Int32.le_iff_toInt_le, show (3 : Int32).toInt = 3 from rfl, show (4 : Int32).toInt = 4 from rfl]
  omega
theorem i64_min (x y : Int64) : (if x > y then y else x) = if y ≤ x then y else x := by
  by_cases h : y ≤ x
  · rw [if_pos h]
    by_cases g : x > y
    · rw [if_pos g]
    · rw [if_neg g]
      apply Int64.toInt_inj.mp
      have h1 := Int64.le_iff_toInt_le.mp h
      have h2 : ¬ y.toInt < x.toInt := fun z => g (Int64.lt_iff_toInt_lt.mpr z)
      omega
  · rw [if_neg h, if_neg fun g => h (Int64.le_iff_toInt_le.mpr (by have := Int64.lt_iff_toInt_lt.mp g; omega))]
theorem i64_max (x y : Int64) : (if x < y then y else x) = if x ≤ y then y else x := by
  by_cases h : x ≤ y
  · rw [if_pos h]
    by_cases g : x < y
    · rw [if_pos g]
    · rw [if_neg g]
      apply Int64.toInt_inj.mp
      have h1 := Int64.le_iff_toInt_le.mp h
      have h2 : ¬ x.toInt < y.toInt := fun z => g (Int64.lt_iff_toInt_lt.mpr z)
      omega
  · rw [if_neg h, if_neg fun g => h (Int64.le_iff_toInt_le.mpr (by have := Int64.lt_iff_toInt_lt.mp g; omega))]
theorem v_worked4 (G : jj_G) (τ : jj_T) (I : jj_I) (L : jj_L) (r : jj_R) (x y : Int64) : kk_M G yX27_worked (ws_ yX27_worked cX27_worked 5 (some .long)) { frames := 1, cells := 0, slots := 0, locals := 23 } [jI 4, jL x, jL y] false τ I L r (jj_eq (some (jL (x + y))) τ I L r) jj_no := by
  refine kk_intro "BranchCells$Merger" (by decide) rfl (Nat.le_of_ble_eq_true rfl) ?_
  intro X hG hX hr hN hC hF hAd
  refine kk_iload_n (pc := 0) hX dX27_worked_0 rfl ?_
  refine kk_tabIn (pc := 1) hX 40 dX27_worked_1 (by decide) (by decide) rfl rfl ?_
  refine kk_lload_n (pc := 40) hX dX27_worked_40 rfl ?_
  refine kk_lload_n (pc := 41) hX dX27_worked_41 rfl ?_
  refine kk_ladd (pc := 42) hX dX27_worked_42 ?_
  exact kk_lret (pc := 43) hX dX27_worked_43 hr ⟨Nat.le_refl _, Nat.le_refl _⟩ (⟨rfl, rfl, rfl, rfl, rfl⟩)

theorem v_worked5 (G : jj_G) (τ : jj_T) (I : jj_I) (L : jj_L) (r : jj_R) (x y : Int64) : kk_M G yX27_worked (ws_ yX27_worked cX27_worked 5 (some .long)) { frames := 1, cells := 0, slots := 0, locals := 23 } [jI 5, jL x, jL y] false τ I L r (jj_eq (some (jL (x - y))) τ I L r) jj_no := by
  refine kk_intro "BranchCells$Merger" (by decide) rfl (Nat.le_of_ble_eq_true rfl) ?_
  intro X hG hX hr hN hC hF hAd
  refine kk_iload_n (pc := 0) hX dX27_worked_0 rfl ?_
  refine kk_tabIn (pc := 1) hX 44 dX27_worked_1 (by decide) (by decide) rfl rfl ?_
  refine kk_lload_n (pc := 44) hX dX27_worked_44 rfl ?_
  refine kk_lload_n (pc := 45) hX dX27_worked_45 rfl ?_
  refine kk_lsub (pc := 46) hX dX27_worked_46 ?_
  exact kk_lret (pc := 47) hX dX27_worked_47 hr ⟨Nat.le_refl _, Nat.le_refl _⟩ (⟨rfl, rfl, rfl, rfl, rfl⟩)

theorem v_worked6 (G : jj_G) (τ : jj_T) (I : jj_I) (L : jj_L) (r : jj_R) (x y : Int64) : kk_M G yX27_worked (ws_ yX27_worked cX27_worked 5 (some .long)) { frames := 1, cells := 0, slots := 0, locals := 23 } [jI 6, jL x, jL y] false τ I L r (jj_eq (some (jL (if y ≤ x then y else x))) τ I L r) jj_no := by
  refine kk_intro "BranchCells$Merger" (by decide) rfl (Nat.le_of_ble_eq_true rfl) ?_
  intro X hG hX hr hN hC hF hAd
  refine kk_iload_n (pc := 0) hX dX27_worked_0 rfl ?_
  refine kk_tabIn (pc := 1) hX 48 dX27_worked_1 (by decide) (by decide) rfl rfl ?_
  refine kk_lload_n (pc := 48) hX dX27_worked_48 rfl ?_
  refine kk_lload_n (pc := 49) hX dX27_worked_49 rfl ?_
  refine kk_callS (pc := 50) hX (v_minL X.1 _ _ _ _ x y) dX27_worked_50 (lw_S q673 q674 q81 q675) ⟨by decide +kernel, by decide +kernel, by show _ = some (2 : Nat); decide +kernel⟩ ⟨Nat.le_of_ble_eq_true rfl, Nat.le_of_ble_eq_true rfl, Nat.le_of_ble_eq_true rfl, Nat.le_of_ble_eq_true rfl, Nat.le_of_ble_eq_true rfl⟩ (fun q => by cases q) rfl (jj_keq ?_) jj_kno
  refine kk_topL _ (i64_min x y) ?_
  exact kk_lret (pc := 53) hX dX27_worked_53 hr ⟨Nat.le_refl _, Nat.le_refl _⟩ (⟨rfl, rfl, rfl, rfl, rfl⟩)

theorem v_worked7 (G : jj_G) (τ : jj_T) (I : jj_I) (L : jj_L) (r : jj_R) (x y : Int64) : kk_M G yX27_worked (ws_ yX27_worked cX27_worked 5 (some .long)) { frames := 1, cells := 0, slots := 0, locals := 23 } [jI 7, jL x, jL y] false τ I L r (jj_eq (some (jL (if x ≤ y then y else x))) τ I L r) jj_no := by
  refine kk_intro "BranchCells$Merger" (by decide) rfl (Nat.le_of_ble_eq_true rfl) ?_
  intro X hG hX hr hN hC hF hAd
  refine kk_iload_n (pc := 0) hX dX27_worked_0 rfl ?_
  refine kk_tabIn (pc := 1) hX 54 dX27_worked_1 (by decide) (by decide) rfl rfl ?_
  refine kk_lload_n (pc := 54) hX dX27_worked_54 rfl ?_
  refine kk_lload_n (pc := 55) hX dX27_worked_55 rfl ?_
  refine kk_callS (pc := 56) hX (v_maxL X.1 _ _ _ _ x y) dX27_worked_56 (lw_S q676 q677 q81 q678) ⟨by decide +kernel, by decide +kernel, by show _ = some (2 : Nat); decide +kernel⟩ ⟨Nat.le_of_ble_eq_true rfl, Nat.le_of_ble_eq_true rfl, Nat.le_of_ble_eq_true rfl, Nat.le_of_ble_eq_true rfl, Nat.le_of_ble_eq_true rfl⟩ (fun q => by cases q) rfl (jj_keq ?_) jj_kno
  refine kk_topL _ (i64_max x y) ?_
  exact kk_lret (pc := 59) hX dX27_worked_59 hr ⟨Nat.le_refl _, Nat.le_refl _⟩ (⟨rfl, rfl, rfl, rfl, rfl⟩)

theorem v_worked8 (G : jj_G) (τ : jj_T) (I : jj_I) (L : jj_L) (r : jj_R) (x y : Int64) : kk_M G yX27_worked (ws_ yX27_worked cX27_worked 5 (some .long)) { frames := 1, cells := 0, slots := 0, locals := 23 } [jI 8, jL x, jL y] false τ I L r (jj_eq (some (jL (x &&& y))) τ I L r) jj_no := by
  refine kk_intro "BranchCells$Merger" (by decide) rfl (Nat.le_of_ble_eq_true rfl) ?_
  intro X hG hX hr hN hC hF hAd
  refine kk_iload_n (pc := 0) hX dX27_worked_0 rfl ?_
  refine kk_tabIn (pc := 1) hX 60 dX27_worked_1 (by decide) (by decide) rfl rfl ?_
  refine kk_lload_n (pc := 60) hX dX27_worked_60 rfl ?_
  refine kk_lload_n (pc := 61) hX dX27_worked_61 rfl ?_
  refine kk_land (pc := 62) hX dX27_worked_62 ?_
  exact kk_lret (pc := 63) hX dX27_worked_63 hr ⟨Nat.le_refl _, Nat.le_refl _⟩ (⟨rfl, rfl, rfl, rfl, rfl⟩)

theorem v_worked9 (G : jj_G) (τ : jj_T) (I : jj_I) (L : jj_L) (r : jj_R) (x y : Int64) : kk_M G yX27_worked (ws_ yX27_worked cX27_worked 5 (some .long)) { frames := 1, cells := 0, slots := 0, locals := 23 } [jI 9, jL x, jL y] false τ I L r (jj_eq (some (jL (x ||| y))) τ I L r) jj_no := by
  refine kk_intro "BranchCells$Merger" (by decide) rfl (Nat.le_of_ble_eq_true rfl) ?_
  intro X hG hX hr hN hC hF hAd
  refine kk_iload_n (pc := 0) hX dX27_worked_0 rfl ?_
  refine kk_tabIn (pc := 1) hX 64 dX27_worked_1 (by decide) (by decide) rfl rfl ?_
  refine kk_lload_n (pc := 64) hX dX27_worked_64 rfl ?_
  refine kk_lload_n (pc := 65) hX dX27_worked_65 rfl ?_
  refine kk_lor (pc := 66) hX dX27_worked_66 ?_
  exact kk_lret (pc := 67) hX dX27_worked_67 hr ⟨Nat.le_refl _, Nat.le_refl _⟩ (⟨rfl, rfl, rfl, rfl, rfl⟩)

theorem v_worked10 (G : jj_G) (τ : jj_T) (I : jj_I) (L : jj_L) (r : jj_R) (x y : Int64) : kk_M G yX27_worked (ws_ yX27_worked cX27_worked 5 (some .long)) { frames := 1, cells := 0, slots := 0, locals := 23 } [jI 10, jL x, jL y] false τ I L r (jj_eq (some (jL (x ^^^ y))) τ I L r) jj_no := by
  refine kk_intro "BranchCells$Merger" (by decide) rfl (Nat.le_of_ble_eq_true rfl) ?_
  intro X hG hX hr hN hC hF hAd
  refine kk_iload_n (pc := 0) hX dX27_worked_0 rfl ?_
  refine kk_tabOut (pc := 1) hX 68 dX27_worked_1 (Or.inr (by decide)) rfl ?_
  refine kk_lload_n (pc := 68) hX dX27_worked_68 rfl ?_
  refine kk_lload_n (pc := 69) hX dX27_worked_69 rfl ?_
  refine kk_lxor (pc := 70) hX dX27_worked_70 ?_
  exact kk_lret (pc := 71) hX dX27_worked_71 hr ⟨Nat.le_refl _, Nat.le_refl _⟩ (⟨rfl, rfl, rfl, rfl, rfl⟩)

theorem v_worked (G : jj_G) (τ : jj_T) (I : jj_I) (L : jj_L) (r : jj_R) (op : Int32) (x y : Int64) (h : jb op 10) (h4 : 4 ≤ nv op) : kk_M G yX27_worked (ws_ yX27_worked cX27_worked 5 (some .long)) { frames := 1, cells := 0, slots := 0, locals := 23 } [jI op, jL x, jL y] false τ I L r (jj_eq (some (jL (m_two op x y))) τ I L r) jj_no := by
  have e := h.1
  have e2 := h.2
  have c : nv op = 4 ∨ nv op = 5 ∨ nv op = 6 ∨ nv op = 7 ∨ nv op = 8 ∨ nv op = 9 ∨ nv op = 10 := by omega
  rcases c with q | q | q | q | q | q | q <;> rw [q] at e <;> subst e
  · exact v_worked4 G τ I L r x y
  · exact v_worked5 G τ I L r x y
  · exact v_worked6 G τ I L r x y
  · exact v_worked7 G τ I L r x y
  · exact v_worked8 G τ I L r x y
  · exact v_worked9 G τ I L r x y
  · exact v_worked10 G τ I L r x y
theorem v_isRight_l {X : jj_X} {o : jj_T} (hX : kk_ok X cX27_isRight "BranchCells$Merger" 3 0 0 0 0) (hr : jj_Ret X (some .boolean)) {τ : jj_T} {I : jj_I} {L : jj_L} {r : jj_R} {β : Nat} {ss : List Nat} {e N : Nat → Nat} {ρ : jm} {pl : Nat → Int32} {σ : jm} (h : cr_rel β ss e N ρ pl σ τ I L r) (hv : m_pr σ) {m : Nat} (hm : m < nv (σ.1 0 4)) (R : Bool) : ∀ (f k d : Nat), k + f = nv (σ.1 6 m) → d ≤ k → m_rt (fun z => σ.1 7 (12 * m + z)) f k d = R → kk_J X o (kk_End X o (jj_eq (some (jI (if R then 1 else 0))) τ I L r) jj_no 0 0) 0 0 4 [(0, jR (some (200 + 10 * m))), (1, jI (nI d)), (2, jI (nI k))] [] τ I L r := by
  have hb := h.mg m hm
  have hN := (hv.am m (by have := hv.me.2; omega)).2
  intro f
  induction f with
  | zero =>
    intro k d hk hd hR
    refine kk_iload_n (pc := 4) hX dX27_isRight_4 rfl ?_
    refine kk_aload_n (pc := 5) hX dX27_isRight_5 rfl ?_
    refine kk_getI (pc := 6) hX fl_X27_22_27 dX27_isRight_6 hb.k0 rfl ?_
    refine kk_top (σ.1 6 m) hb.sz ?_
    refine kk_top (nI (nv (σ.1 6 m))) (hv.am m (by have := hv.me.2; omega)).1 ?_
    refine kk_icmp_ge (pc := 9) hX 53 dX27_isRight_9 rfl (fun _ => ?_) (fun q => absurd (nI_le (show nv (σ.1 6 m) ≤ k by omega) (by omega)) q)
    refine kk_iload_n (pc := 53) hX dX27_isRight_53 rfl ?_
    refine kk_iconst (pc := 54) hX (v := 1) dX27_isRight_54 (by decide) ?_
    refine kk_icmp_ne (pc := 55) hX 62 dX27_isRight_55 rfl (fun h55 => ?_) (fun h55 => ?_)
    · refine kk_iconst (pc := 62) hX (v := 0) dX27_isRight_62 (by decide) ?_
      refine kk_zret (pc := 63) hX dX27_isRight_63 hr ⟨Nat.le_refl _, Nat.le_refl _⟩ (by decide) ?_
      rw [show R = false from hR.symm.trans (decide_eq_false (fun z => h55 (by rw [z]; rfl)))]
      exact ⟨rfl, rfl, rfl, rfl, rfl⟩
    · refine kk_iconst (pc := 58) hX (v := 1) dX27_isRight_58 (by decide) ?_
      refine kk_goto (pc := 59) hX 63 dX27_isRight_59 rfl ?_
      refine kk_zret (pc := 63) hX dX27_isRight_63 hr ⟨Nat.le_refl _, Nat.le_refl _⟩ (by decide) ?_
      rw [show R = true from hR.symm.trans (decide_eq_true ((nI_eq (b := 1) (by omega) (by omega)).mp h55))]
      exact ⟨rfl, rfl, rfl, rfl, rfl⟩
  | succ f ih =>
    intro k d hk hd hR
    have hR := hR
    unfold m_rt at hR
    by_cases h4 : 4 ≤ σ.1 7 (12 * m + k)
    · rw [if_pos h4] at hR
      by_cases h2 : 2 ≤ d
      · rw [if_pos h2] at hR
        refine kk_iload_n (pc := 4) hX dX27_isRight_4 rfl ?_
        refine kk_aload_n (pc := 5) hX dX27_isRight_5 rfl ?_
        refine kk_getI (pc := 6) hX fl_X27_22_27 dX27_isRight_6 hb.k0 rfl ?_
        refine kk_top (σ.1 6 m) hb.sz ?_
        refine kk_top (nI (nv (σ.1 6 m))) (hv.am m (by have := hv.me.2; omega)).1 ?_
        refine kk_icmp_ge (pc := 9) hX 53 dX27_isRight_9 rfl (fun q => absurd q (nI_ge (show k < nv (σ.1 6 m) by omega) (by omega))) (fun _ => ?_)
        refine kk_aload_n (pc := 12) hX dX27_isRight_12 rfl ?_
        refine kk_getR (pc := 13) hX (x := some (200 + 10 * m + 1)) fl_X27_9_27 dX27_isRight_13 hb.k0 rfl hb.l0 ?_
        refine kk_iload_n (pc := 16) hX dX27_isRight_16 rfl ?_
        refine kk_iald (pc := 17) hX k dX27_isRight_17 hb.k1 rfl rfl ⟨by omega, by omega⟩ ?_
        refine kk_top (σ.1 7 (12 * m + k)) (hb.co k (by omega)).1 ?_
        refine kk_iconst (pc := 18) hX (v := 3) dX27_isRight_18 (by decide) ?_
        refine kk_icmp_le (pc := 19) hX 29 dX27_isRight_19 rfl (fun q => absurd q (fun z => (i3_le _).mp z h4)) (fun _ => ?_)
        refine kk_iload_n (pc := 22) hX dX27_isRight_22 rfl ?_
        refine kk_iconst (pc := 23) hX (v := 2) dX27_isRight_23 (by decide) ?_
        refine kk_icmp_ge (pc := 24) hX 29 dX27_isRight_24 rfl (fun _ => ?_) (fun q => absurd (nI_le (a := 2) h2 (by omega)) q)
        refine kk_iload_n (pc := 29) hX dX27_isRight_29 rfl ?_
        refine kk_aload_n (pc := 30) hX dX27_isRight_30 rfl ?_
        refine kk_getR (pc := 31) hX (x := some (200 + 10 * m + 1)) fl_X27_9_27 dX27_isRight_31 hb.k0 rfl hb.l0 ?_
        refine kk_iload_n (pc := 34) hX dX27_isRight_34 rfl ?_
        refine kk_iald (pc := 35) hX k dX27_isRight_35 hb.k1 rfl rfl ⟨by omega, by omega⟩ ?_
        refine kk_top (σ.1 7 (12 * m + k)) (hb.co k (by omega)).1 ?_
        refine kk_iconst (pc := 36) hX (v := 4) dX27_isRight_36 (by decide) ?_
        refine kk_icmp_ge (pc := 37) hX 44 dX27_isRight_37 rfl (fun _ => ?_) (fun q => absurd h4 q)
        refine kk_iconst (pc := 44) hX (v := (-1)) dX27_isRight_44 (by decide) ?_
        refine kk_iadd (pc := 45) hX dX27_isRight_45 ?_
        refine kk_top (nI (d - 1)) (nI_dec d (by omega)) ?_
        refine kk_istore_n (pc := 46) hX dX27_isRight_46 (by decide) ?_
        refine kk_iinc (pc := 47) hX (v := nI (k + 1)) dX27_isRight_47 rfl (kx_inc rfl) (by decide) ?_
        refine kk_goto (pc := 50) hX 4 dX27_isRight_50 rfl ?_
        refine kk_lss [(0, jR (some (200 + 10 * m))), (1, jI (nI (d - 1))), (2, jI (nI (k + 1)))] ⟨rfl, rfl, rfl, trivial⟩ ?_
        exact ih (k + 1) (d - 1) (by omega) (by omega) hR
      · rw [if_neg h2] at hR
        refine kk_iload_n (pc := 4) hX dX27_isRight_4 rfl ?_
        refine kk_aload_n (pc := 5) hX dX27_isRight_5 rfl ?_
        refine kk_getI (pc := 6) hX fl_X27_22_27 dX27_isRight_6 hb.k0 rfl ?_
        refine kk_top (σ.1 6 m) hb.sz ?_
        refine kk_top (nI (nv (σ.1 6 m))) (hv.am m (by have := hv.me.2; omega)).1 ?_
        refine kk_icmp_ge (pc := 9) hX 53 dX27_isRight_9 rfl (fun q => absurd q (nI_ge (show k < nv (σ.1 6 m) by omega) (by omega))) (fun _ => ?_)
        refine kk_aload_n (pc := 12) hX dX27_isRight_12 rfl ?_
        refine kk_getR (pc := 13) hX (x := some (200 + 10 * m + 1)) fl_X27_9_27 dX27_isRight_13 hb.k0 rfl hb.l0 ?_
        refine kk_iload_n (pc := 16) hX dX27_isRight_16 rfl ?_
        refine kk_iald (pc := 17) hX k dX27_isRight_17 hb.k1 rfl rfl ⟨by omega, by omega⟩ ?_
        refine kk_top (σ.1 7 (12 * m + k)) (hb.co k (by omega)).1 ?_
        refine kk_iconst (pc := 18) hX (v := 3) dX27_isRight_18 (by decide) ?_
        refine kk_icmp_le (pc := 19) hX 29 dX27_isRight_19 rfl (fun q => absurd q (fun z => (i3_le _).mp z h4)) (fun _ => ?_)
        refine kk_iload_n (pc := 22) hX dX27_isRight_22 rfl ?_
        refine kk_iconst (pc := 23) hX (v := 2) dX27_isRight_23 (by decide) ?_
        refine kk_icmp_ge (pc := 24) hX 29 dX27_isRight_24 rfl (fun q => absurd q (nI_ge (b := 2) (show d < 2 by omega) (by decide))) (fun _ => ?_)
        refine kk_iconst (pc := 27) hX (v := 0) dX27_isRight_27 (by decide) ?_
        refine kk_zret (pc := 28) hX dX27_isRight_28 hr ⟨Nat.le_refl _, Nat.le_refl _⟩ (by decide) ?_
        rw [← hR]
        exact ⟨rfl, rfl, rfl, rfl, rfl⟩
    · rw [if_neg h4] at hR
      refine kk_iload_n (pc := 4) hX dX27_isRight_4 rfl ?_
      refine kk_aload_n (pc := 5) hX dX27_isRight_5 rfl ?_
      refine kk_getI (pc := 6) hX fl_X27_22_27 dX27_isRight_6 hb.k0 rfl ?_
      refine kk_top (σ.1 6 m) hb.sz ?_
      refine kk_top (nI (nv (σ.1 6 m))) (hv.am m (by have := hv.me.2; omega)).1 ?_
      refine kk_icmp_ge (pc := 9) hX 53 dX27_isRight_9 rfl (fun q => absurd q (nI_ge (show k < nv (σ.1 6 m) by omega) (by omega))) (fun _ => ?_)
      refine kk_aload_n (pc := 12) hX dX27_isRight_12 rfl ?_
      refine kk_getR (pc := 13) hX (x := some (200 + 10 * m + 1)) fl_X27_9_27 dX27_isRight_13 hb.k0 rfl hb.l0 ?_
      refine kk_iload_n (pc := 16) hX dX27_isRight_16 rfl ?_
      refine kk_iald (pc := 17) hX k dX27_isRight_17 hb.k1 rfl rfl ⟨by omega, by omega⟩ ?_
      refine kk_top (σ.1 7 (12 * m + k)) (hb.co k (by omega)).1 ?_
      refine kk_iconst (pc := 18) hX (v := 3) dX27_isRight_18 (by decide) ?_
      refine kk_icmp_le (pc := 19) hX 29 dX27_isRight_19 rfl (fun _ => ?_) (fun q => absurd ((i3_le _).mpr h4) q)
      refine kk_iload_n (pc := 29) hX dX27_isRight_29 rfl ?_
      refine kk_aload_n (pc := 30) hX dX27_isRight_30 rfl ?_
      refine kk_getR (pc := 31) hX (x := some (200 + 10 * m + 1)) fl_X27_9_27 dX27_isRight_31 hb.k0 rfl hb.l0 ?_
      refine kk_iload_n (pc := 34) hX dX27_isRight_34 rfl ?_
      refine kk_iald (pc := 35) hX k dX27_isRight_35 hb.k1 rfl rfl ⟨by omega, by omega⟩ ?_
      refine kk_top (σ.1 7 (12 * m + k)) (hb.co k (by omega)).1 ?_
      refine kk_iconst (pc := 36) hX (v := 4) dX27_isRight_36 (by decide) ?_
      refine kk_icmp_ge (pc := 37) hX 44 dX27_isRight_37 rfl (fun q => absurd q h4) (fun _ => ?_)
      refine kk_iconst (pc := 40) hX (v := 1) dX27_isRight_40 (by decide) ?_
      refine kk_goto (pc := 41) hX 45 dX27_isRight_41 rfl ?_
      refine kk_iadd (pc := 45) hX dX27_isRight_45 ?_
      refine kk_top (nI (d + 1)) (nI_add d 1) ?_
      refine kk_istore_n (pc := 46) hX dX27_isRight_46 (by decide) ?_
      refine kk_iinc (pc := 47) hX (v := nI (k + 1)) dX27_isRight_47 rfl (kx_inc rfl) (by decide) ?_
      refine kk_goto (pc := 50) hX 4 dX27_isRight_50 rfl ?_
      refine kk_lss [(0, jR (some (200 + 10 * m))), (1, jI (nI (d + 1))), (2, jI (nI (k + 1)))] ⟨rfl, rfl, rfl, trivial⟩ ?_
      exact ih (k + 1) (d + 1) (by omega) (by omega) hR

theorem v_isRight (G : jj_G) (τ : jj_T) (I : jj_I) (L : jj_L) (r : jj_R) {β : Nat} {ss : List Nat} {e N : Nat → Nat} {ρ : jm} {pl : Nat → Int32} {σ : jm} (h : cr_rel β ss e N ρ pl σ τ I L r) (hv : m_pr σ) {m : Nat} (hm : m < nv (σ.1 0 4)) : kk_M G yX27_isRight (ws_ yX27_isRight cX27_isRight 3 (some .boolean)) { frames := 0, cells := 0, slots := 0, locals := 0 } [jR (some (200 + 10 * m))] false τ I L r (jj_eq (some (jI (if m_right m σ then 1 else 0))) τ I L r) jj_no := by
  refine kk_intro "BranchCells$Merger" (by decide) rfl (Nat.le_of_ble_eq_true rfl) ?_
  intro X hG hX hr hN hC hF hAd
  refine kk_iconst (pc := 0) hX (v := 0) dX27_isRight_0 (by decide) ?_
  refine kk_istore_n (pc := 1) hX dX27_isRight_1 (by decide) ?_
  refine kk_iconst (pc := 2) hX (v := 0) dX27_isRight_2 (by decide) ?_
  refine kk_istore_n (pc := 3) hX dX27_isRight_3 (by decide) ?_
  refine kk_lss [(0, jR (some (200 + 10 * m))), (1, jI (nI 0)), (2, jI (nI 0))] ⟨rfl, rfl, rfl, trivial⟩ ?_
  exact v_isRight_l hX hr h hv hm _ _ 0 0 (Nat.zero_add _) (Nat.le_refl _) rfl

theorem nv_ge4 {x : Int32} {n : Nat} (h : jb x n) (h4 : 4 ≤ x) (hn : n < 2147483648 := by decide) : 4 ≤ nv x := by
  have := h.2
  rw [h.1] at h4
  exact (nI_leI (a := 4) (by decide) (by omega)).mp h4
theorem v_Mtells_l {X : jj_X} {o : jj_T} (hX : kk_ok X cX27_tells "BranchCells$Merger" 9 2 47 0 0) (hr : jj_Ret X (some .long)) {τ : jj_T} {I : jj_I} {L0 Lf : jj_L} {r : jj_R} {β : Nat} {ss : List Nat} {e N : Nat → Nat} {ρ : jm} {pl : Nat → Int32} {σ : jm} (h : cr_rel β ss e N ρ pl σ τ I L0 r) (hv : m_pr σ) {m : Nat} (hm : m < nv (σ.1 0 4)) (b u w : Int64) : ∀ (f k d : Nat) (L : jj_L), k + f = nv (σ.1 6 m) → d ≤ k → m_rt (fun z => σ.1 7 (12 * m + z)) f k d = true → m_tl (200 + 10 * m + 3) (fun z => σ.1 7 (12 * m + z)) (fun z => σ.1 8 (12 * m + z)) b u w f k d L = Lf → kk_J X o (kk_End X o (jj_eq (some (jL (Lf (200 + 10 * m + 3) 0))) τ I Lf r) jj_no 0 0) 0 0 6 [(0, jR (some (200 + 10 * m))), (1, jL b), (3, jL u), (5, jL w), (7, jI (nI d)), (8, jI (nI k))] [] τ I L r := by
  have hb := h.mg m hm
  have hN := (hv.am m (by have := hv.me.2; omega)).2
  intro f
  induction f with
  | zero =>
    intro k d L hk hd hR hL
    unfold m_tl at hL
    subst hL
    refine kk_iload (pc := 6) hX dX27_tells_6 rfl ?_
    refine kk_aload_n (pc := 8) hX dX27_tells_8 rfl ?_
    refine kk_getI (pc := 9) hX fl_X27_22_27 dX27_tells_9 hb.k0 rfl ?_
    refine kk_top (σ.1 6 m) hb.sz ?_
    refine kk_top (nI (nv (σ.1 6 m))) (hv.am m (by have := hv.me.2; omega)).1 ?_
    refine kk_icmp_ge (pc := 12) hX 136 dX27_tells_12 rfl (fun _ => ?_) (fun q => absurd (nI_le (show nv (σ.1 6 m) ≤ k by omega) (by omega)) q)
    refine kk_aload_n (pc := 136) hX dX27_tells_136 rfl ?_
    refine kk_getR (pc := 137) hX (x := some (200 + 10 * m + 3)) fl_X27_18_27 dX27_tells_137 hb.k0 rfl hb.l3 ?_
    refine kk_iconst (pc := 140) hX (v := 0) dX27_tells_140 (by decide) ?_
    refine kk_lald (pc := 141) hX 0 dX27_tells_141 hb.k3 rfl rfl ⟨by decide, by decide⟩ ?_
    exact kk_lret (pc := 142) hX dX27_tells_142 hr ⟨Nat.le_refl _, Nat.le_refl _⟩ (⟨rfl, rfl, rfl, rfl, rfl⟩)
  | succ f ih =>
    intro k d L hk hd hR hL
    unfold m_rt at hR
    unfold m_tl at hL
    by_cases h4 : 4 ≤ σ.1 7 (12 * m + k)
    · rw [if_pos h4] at hR hL
      by_cases h2 : 2 ≤ d
      · rw [if_pos h2] at hR
        refine kk_iload (pc := 6) hX dX27_tells_6 rfl ?_
        refine kk_aload_n (pc := 8) hX dX27_tells_8 rfl ?_
        refine kk_getI (pc := 9) hX fl_X27_22_27 dX27_tells_9 hb.k0 rfl ?_
        refine kk_top (σ.1 6 m) hb.sz ?_
        refine kk_top (nI (nv (σ.1 6 m))) (hv.am m (by have := hv.me.2; omega)).1 ?_
        refine kk_icmp_ge (pc := 12) hX 136 dX27_tells_12 rfl (fun q => absurd q (nI_ge (show k < nv (σ.1 6 m) by omega) (by omega))) (fun _ => ?_)
        refine kk_aload_n (pc := 15) hX dX27_tells_15 rfl ?_
        refine kk_getR (pc := 16) hX (x := some (200 + 10 * m + 1)) fl_X27_9_27 dX27_tells_16 hb.k0 rfl hb.l0 ?_
        refine kk_iload (pc := 19) hX dX27_tells_19 rfl ?_
        refine kk_iald (pc := 21) hX k dX27_tells_21 hb.k1 rfl rfl ⟨by omega, by omega⟩ ?_
        refine kk_top (σ.1 7 (12 * m + k)) (hb.co k (by omega)).1 ?_
        refine kk_iconst (pc := 22) hX (v := 4) dX27_tells_22 (by decide) ?_
        refine kk_icmp_ge (pc := 23) hX 92 dX27_tells_23 rfl (fun _ => ?_) (fun q => absurd h4 q)
        refine kk_iinc (pc := 92) hX (v := nI (d - 1)) dX27_tells_92 rfl (nI_dec d (by omega)) (by decide) ?_
        refine kk_aload_n (pc := 95) hX dX27_tells_95 rfl ?_
        refine kk_getR (pc := 96) hX (x := some (200 + 10 * m + 3)) fl_X27_18_27 dX27_tells_96 hb.k0 rfl hb.l3 ?_
        refine kk_iload (pc := 99) hX dX27_tells_99 rfl ?_
        refine kk_iconst (pc := 101) hX (v := 1) dX27_tells_101 (by decide) ?_
        refine kk_isub (pc := 102) hX dX27_tells_102 ?_
        refine kk_top (nI ((d - 1) - 1)) (ix_sub rfl rfl (by omega)) ?_
        refine kk_aload_n (pc := 103) hX dX27_tells_103 rfl ?_
        refine kk_getR (pc := 104) hX (x := some (200 + 10 * m + 1)) fl_X27_9_27 dX27_tells_104 hb.k0 rfl hb.l0 ?_
        refine kk_iload (pc := 107) hX dX27_tells_107 rfl ?_
        refine kk_iald (pc := 109) hX k dX27_tells_109 hb.k1 rfl rfl ⟨by omega, by omega⟩ ?_
        refine kk_top (σ.1 7 (12 * m + k)) (hb.co k (by omega)).1 ?_
        refine kk_aload_n (pc := 110) hX dX27_tells_110 rfl ?_
        refine kk_getR (pc := 111) hX (x := some (200 + 10 * m + 3)) fl_X27_18_27 dX27_tells_111 hb.k0 rfl hb.l3 ?_
        refine kk_iload (pc := 114) hX dX27_tells_114 rfl ?_
        refine kk_iconst (pc := 116) hX (v := 1) dX27_tells_116 (by decide) ?_
        refine kk_isub (pc := 117) hX dX27_tells_117 ?_
        refine kk_top (nI ((d - 1) - 1)) (ix_sub rfl rfl (by omega)) ?_
        refine kk_lald (pc := 118) hX ((d - 1) - 1) dX27_tells_118 hb.k3 rfl rfl ⟨by omega, by omega⟩ ?_
        refine kk_aload_n (pc := 119) hX dX27_tells_119 rfl ?_
        refine kk_getR (pc := 120) hX (x := some (200 + 10 * m + 3)) fl_X27_18_27 dX27_tells_120 hb.k0 rfl hb.l3 ?_
        refine kk_iload (pc := 123) hX dX27_tells_123 rfl ?_
        refine kk_lald (pc := 125) hX (d - 1) dX27_tells_125 hb.k3 rfl rfl ⟨by omega, by omega⟩ ?_
        refine kk_callS (pc := 126) hX (v_worked X.1 _ _ _ _ (σ.1 7 (12 * m + k)) (L (200 + 10 * m + 3) (d - 1 - 1)) (L (200 + 10 * m + 3) (d - 1)) (hv.ao _ (by have := hv.me.2; omega)) (nv_ge4 (hv.ao _ (by have := hv.me.2; omega)) h4)) dX27_tells_126 (lw_S q670 q671 q86 q672) ⟨by decide +kernel, by decide +kernel, by show _ = some (3 : Nat); decide +kernel⟩ ⟨Nat.le_of_ble_eq_true rfl, Nat.le_of_ble_eq_true rfl, Nat.le_of_ble_eq_true rfl, Nat.le_of_ble_eq_true rfl, Nat.le_of_ble_eq_true rfl⟩ (fun q => by cases q) rfl (jj_keq ?_) jj_kno
        refine kk_last (pc := 129) hX ((d - 1) - 1) dX27_tells_129 hb.k3 rfl ⟨by omega, by omega⟩ ?_
        refine kk_iinc (pc := 130) hX (v := nI (k + 1)) dX27_tells_130 rfl (kx_inc rfl) (by decide) ?_
        refine kk_goto (pc := 133) hX 6 dX27_tells_133 rfl ?_
        refine kk_lss [(0, jR (some (200 + 10 * m))), (1, jL b), (3, jL u), (5, jL w), (7, jI (nI (d - 1))), (8, jI (nI (k + 1)))] ⟨rfl, rfl, rfl, rfl, rfl, rfl, trivial⟩ ?_
        exact ih (k + 1) (d - 1) _ (by omega) (by omega) hR hL
      · rw [if_neg h2] at hR
        cases hR
    · rw [if_neg h4] at hR hL
      refine kk_iload (pc := 6) hX dX27_tells_6 rfl ?_
      refine kk_aload_n (pc := 8) hX dX27_tells_8 rfl ?_
      refine kk_getI (pc := 9) hX fl_X27_22_27 dX27_tells_9 hb.k0 rfl ?_
      refine kk_top (σ.1 6 m) hb.sz ?_
      refine kk_top (nI (nv (σ.1 6 m))) (hv.am m (by have := hv.me.2; omega)).1 ?_
      refine kk_icmp_ge (pc := 12) hX 136 dX27_tells_12 rfl (fun q => absurd q (nI_ge (show k < nv (σ.1 6 m) by omega) (by omega))) (fun _ => ?_)
      refine kk_aload_n (pc := 15) hX dX27_tells_15 rfl ?_
      refine kk_getR (pc := 16) hX (x := some (200 + 10 * m + 1)) fl_X27_9_27 dX27_tells_16 hb.k0 rfl hb.l0 ?_
      refine kk_iload (pc := 19) hX dX27_tells_19 rfl ?_
      refine kk_iald (pc := 21) hX k dX27_tells_21 hb.k1 rfl rfl ⟨by omega, by omega⟩ ?_
      refine kk_top (σ.1 7 (12 * m + k)) (hb.co k (by omega)).1 ?_
      refine kk_iconst (pc := 22) hX (v := 4) dX27_tells_22 (by decide) ?_
      refine kk_icmp_ge (pc := 23) hX 92 dX27_tells_23 rfl (fun q => absurd q h4) (fun _ => ?_)
      refine kk_aload_n (pc := 26) hX dX27_tells_26 rfl ?_
      refine kk_getR (pc := 27) hX (x := some (200 + 10 * m + 3)) fl_X27_18_27 dX27_tells_27 hb.k0 rfl hb.l3 ?_
      refine kk_iload (pc := 30) hX dX27_tells_30 rfl ?_
      refine kk_iinc (pc := 32) hX (v := nI (d + 1)) dX27_tells_32 rfl (kx_inc rfl) (by decide) ?_
      refine kk_aload_n (pc := 35) hX dX27_tells_35 rfl ?_
      refine kk_getR (pc := 36) hX (x := some (200 + 10 * m + 1)) fl_X27_9_27 dX27_tells_36 hb.k0 rfl hb.l0 ?_
      refine kk_iload (pc := 39) hX dX27_tells_39 rfl ?_
      refine kk_iald (pc := 41) hX k dX27_tells_41 hb.k1 rfl rfl ⟨by omega, by omega⟩ ?_
      refine kk_top (σ.1 7 (12 * m + k)) (hb.co k (by omega)).1 ?_
      refine kk_if_ne (pc := 42) hX 49 dX27_tells_42 rfl (fun h42 => ?_) (fun h42 => ?_)
      · refine kk_aload_n (pc := 49) hX dX27_tells_49 rfl ?_
        refine kk_getR (pc := 50) hX (x := some (200 + 10 * m + 1)) fl_X27_9_27 dX27_tells_50 hb.k0 rfl hb.l0 ?_
        refine kk_iload (pc := 53) hX dX27_tells_53 rfl ?_
        refine kk_iald (pc := 55) hX k dX27_tells_55 hb.k1 rfl rfl ⟨by omega, by omega⟩ ?_
        refine kk_top (σ.1 7 (12 * m + k)) (hb.co k (by omega)).1 ?_
        refine kk_iconst (pc := 56) hX (v := 1) dX27_tells_56 (by decide) ?_
        refine kk_icmp_ne (pc := 57) hX 64 dX27_tells_57 rfl (fun h57 => ?_) (fun h57 => ?_)
        · refine kk_aload_n (pc := 64) hX dX27_tells_64 rfl ?_
          refine kk_getR (pc := 65) hX (x := some (200 + 10 * m + 1)) fl_X27_9_27 dX27_tells_65 hb.k0 rfl hb.l0 ?_
          refine kk_iload (pc := 68) hX dX27_tells_68 rfl ?_
          refine kk_iald (pc := 70) hX k dX27_tells_70 hb.k1 rfl rfl ⟨by omega, by omega⟩ ?_
          refine kk_top (σ.1 7 (12 * m + k)) (hb.co k (by omega)).1 ?_
          refine kk_iconst (pc := 71) hX (v := 2) dX27_tells_71 (by decide) ?_
          refine kk_icmp_ne (pc := 72) hX 80 dX27_tells_72 rfl (fun h72 => ?_) (fun h72 => ?_)
          · refine kk_aload_n (pc := 80) hX dX27_tells_80 rfl ?_
            refine kk_getR (pc := 81) hX (x := some (200 + 10 * m + 2)) fl_X27_15_27 dX27_tells_81 hb.k0 rfl hb.l1 ?_
            refine kk_iload (pc := 84) hX dX27_tells_84 rfl ?_
            refine kk_iald (pc := 86) hX k dX27_tells_86 hb.k2 rfl rfl ⟨by omega, by omega⟩ ?_
            refine kk_top (σ.1 8 (12 * m + k)) (hb.co k (by omega)).2 ?_
            refine kk_i2l (pc := 87) hX dX27_tells_87 ?_
            refine kk_topL (m_pick (σ.1 7 (12 * m + k)) b u w (σ.1 8 (12 * m + k))) (by unfold m_pick; rw [if_neg h42, if_neg h57, if_neg h72]) ?_
            refine kk_last (pc := 88) hX d dX27_tells_88 hb.k3 rfl ⟨by omega, by omega⟩ ?_
            refine kk_goto (pc := 89) hX 130 dX27_tells_89 rfl ?_
            refine kk_iinc (pc := 130) hX (v := nI (k + 1)) dX27_tells_130 rfl (kx_inc rfl) (by decide) ?_
            refine kk_goto (pc := 133) hX 6 dX27_tells_133 rfl ?_
            refine kk_lss [(0, jR (some (200 + 10 * m))), (1, jL b), (3, jL u), (5, jL w), (7, jI (nI (d + 1))), (8, jI (nI (k + 1)))] ⟨rfl, rfl, rfl, rfl, rfl, rfl, trivial⟩ ?_
            exact ih (k + 1) (d + 1) _ (by omega) (by omega) hR hL
          · refine kk_lload (pc := 75) hX dX27_tells_75 rfl ?_
            refine kk_goto (pc := 77) hX 88 dX27_tells_77 rfl ?_
            refine kk_topL (m_pick (σ.1 7 (12 * m + k)) b u w (σ.1 8 (12 * m + k))) (by unfold m_pick; rw [if_neg h42, if_neg h57, if_pos h72]) ?_
            refine kk_last (pc := 88) hX d dX27_tells_88 hb.k3 rfl ⟨by omega, by omega⟩ ?_
            refine kk_goto (pc := 89) hX 130 dX27_tells_89 rfl ?_
            refine kk_iinc (pc := 130) hX (v := nI (k + 1)) dX27_tells_130 rfl (kx_inc rfl) (by decide) ?_
            refine kk_goto (pc := 133) hX 6 dX27_tells_133 rfl ?_
            refine kk_lss [(0, jR (some (200 + 10 * m))), (1, jL b), (3, jL u), (5, jL w), (7, jI (nI (d + 1))), (8, jI (nI (k + 1)))] ⟨rfl, rfl, rfl, rfl, rfl, rfl, trivial⟩ ?_
            exact ih (k + 1) (d + 1) _ (by omega) (by omega) hR hL
        · refine kk_lload_n (pc := 60) hX dX27_tells_60 rfl ?_
          refine kk_goto (pc := 61) hX 88 dX27_tells_61 rfl ?_
          refine kk_topL (m_pick (σ.1 7 (12 * m + k)) b u w (σ.1 8 (12 * m + k))) (by unfold m_pick; rw [if_neg h42, if_pos h57]) ?_
          refine kk_last (pc := 88) hX d dX27_tells_88 hb.k3 rfl ⟨by omega, by omega⟩ ?_
          refine kk_goto (pc := 89) hX 130 dX27_tells_89 rfl ?_
          refine kk_iinc (pc := 130) hX (v := nI (k + 1)) dX27_tells_130 rfl (kx_inc rfl) (by decide) ?_
          refine kk_goto (pc := 133) hX 6 dX27_tells_133 rfl ?_
          refine kk_lss [(0, jR (some (200 + 10 * m))), (1, jL b), (3, jL u), (5, jL w), (7, jI (nI (d + 1))), (8, jI (nI (k + 1)))] ⟨rfl, rfl, rfl, rfl, rfl, rfl, trivial⟩ ?_
          exact ih (k + 1) (d + 1) _ (by omega) (by omega) hR hL
      · refine kk_lload_n (pc := 45) hX dX27_tells_45 rfl ?_
        refine kk_goto (pc := 46) hX 88 dX27_tells_46 rfl ?_
        refine kk_topL (m_pick (σ.1 7 (12 * m + k)) b u w (σ.1 8 (12 * m + k))) (by unfold m_pick; rw [if_pos h42]) ?_
        refine kk_last (pc := 88) hX d dX27_tells_88 hb.k3 rfl ⟨by omega, by omega⟩ ?_
        refine kk_goto (pc := 89) hX 130 dX27_tells_89 rfl ?_
        refine kk_iinc (pc := 130) hX (v := nI (k + 1)) dX27_tells_130 rfl (kx_inc rfl) (by decide) ?_
        refine kk_goto (pc := 133) hX 6 dX27_tells_133 rfl ?_
        refine kk_lss [(0, jR (some (200 + 10 * m))), (1, jL b), (3, jL u), (5, jL w), (7, jI (nI (d + 1))), (8, jI (nI (k + 1)))] ⟨rfl, rfl, rfl, rfl, rfl, rfl, trivial⟩ ?_
        exact ih (k + 1) (d + 1) _ (by omega) (by omega) hR hL

theorem v_Mtells (G : jj_G) (τ : jj_T) (I : jj_I) (L : jj_L) (r : jj_R) {β : Nat} {ss : List Nat} {e N : Nat → Nat} {ρ : jm} {pl : Nat → Int32} {σ : jm} (h : cr_rel β ss e N ρ pl σ τ I L r) (hv : m_pr σ) {m : Nat} (hm : m < nv (σ.1 0 4)) (hR : m_right m σ = true) (b u w : Int64) : kk_M G yX27_tells (ws_ yX27_tells cX27_tells 9 (some .long)) { frames := 2, cells := 0, slots := 0, locals := 47 } [jR (some (200 + 10 * m)), jL b, jL u, jL w] false τ I L r (jj_eq (some (jL ((m_tl (200 + 10 * m + 3) (fun z => σ.1 7 (12 * m + z)) (fun z => σ.1 8 (12 * m + z)) b u w (nv (σ.1 6 m)) 0 0 L) (200 + 10 * m + 3) 0))) τ I (m_tl (200 + 10 * m + 3) (fun z => σ.1 7 (12 * m + z)) (fun z => σ.1 8 (12 * m + z)) b u w (nv (σ.1 6 m)) 0 0 L) r) jj_no := by
  refine kk_intro "BranchCells$Merger" (by decide) rfl (Nat.le_of_ble_eq_true rfl) ?_
  intro X hG hX hr hN hC hF hAd
  refine kk_iconst (pc := 0) hX (v := 0) dX27_tells_0 (by decide) ?_
  refine kk_istore (pc := 1) hX dX27_tells_1 (by decide) ?_
  refine kk_iconst (pc := 3) hX (v := 0) dX27_tells_3 (by decide) ?_
  refine kk_istore (pc := 4) hX dX27_tells_4 (by decide) ?_
  refine kk_lss [(0, jR (some (200 + 10 * m))), (1, jL b), (3, jL u), (5, jL w), (7, jI (nI 0)), (8, jI (nI 0))] ⟨rfl, rfl, rfl, rfl, rfl, rfl, trivial⟩ ?_
  exact v_Mtells_l hX hr h hv hm b u w _ 0 0 L (Nat.zero_add _) (Nat.le_refl _) hR rfl

theorem m_tl_eq (q q' : Nat) (ops as9 : Nat → Int32) (b u w : Int64) : ∀ (f k d : Nat) (L L' : jj_L), (∀ i, i < d → L q i = L' q' i) → m_rt ops f k d = true → m_tl q ops as9 b u w f k d L q 0 = m_tl q' ops as9 b u w f k d L' q' 0 := by
  intro f
  induction f with
  | zero =>
    intro k d L L' hL hR
    have hd : d = 1 := of_decide_eq_true hR
    exact hL 0 (by omega)
  | succ f ih =>
    intro k d L L' hL hR
    unfold m_rt at hR
    unfold m_tl
    by_cases h4 : 4 ≤ ops k
    · rw [if_pos h4] at hR
      rw [if_pos h4, if_pos h4]
      by_cases h2 : 2 ≤ d
      · rw [if_pos h2] at hR
        refine ih _ _ _ _ (fun i hi => ?_) hR
        by_cases hi2 : i = d - 1 - 1
        · subst hi2
          rw [jj_us, jj_us, hL _ (by omega), hL _ (by omega)]
        · rw [jj_un (Or.inr hi2), jj_un (Or.inr hi2)]
          exact hL i (by omega)
      · rw [if_neg h2] at hR
        cases hR
    · rw [if_neg h4] at hR
      rw [if_neg h4, if_neg h4]
      refine ih _ _ _ _ (fun i hi => ?_) hR
      by_cases hi2 : i = d
      · subst hi2
        rw [jj_us, jj_us]
      · rw [jj_un (Or.inr hi2), jj_un (Or.inr hi2)]
        exact hL i (by omega)
theorem m_tl_o (q : Nat) (ops as9 : Nat → Int32) (b u w : Int64) {a : Nat} (ha : a ≠ q) : ∀ (f k d : Nat) (L : jj_L), m_tl q ops as9 b u w f k d L a = L a := by
  intro f
  induction f with
  | zero => intro k d L; rfl
  | succ f ih =>
    intro k d L
    unfold m_tl
    split
    · rw [ih]; exact jj_ua ha
    · rw [ih]; exact jj_ua ha