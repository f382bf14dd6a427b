set_option maxRecDepth 100000
theorem v_J0i (G : jj_G) (τ : jj_T) (I : jj_I) (L : jj_L) (r : jj_R) (th : Nat) : kk_M G yJ0_init (ws_ yJ0_init cJ0_init 1 none) { frames := 1, cells := 0, slots := 0, locals := 20 } [jR (some th)] false τ I L r (jj_eq none τ I L r) jj_no := by
  refine kk_intro "java/util/AbstractCollection" (by decide) rfl (Nat.le_of_ble_eq_true rfl) ?_
  intro X hG hX hr hN hC hF hAd
  refine kk_aload_n (pc := 0) hX dJ0_init_0 rfl ?_
  refine kk_objInit (pc := 1) hX dJ0_init_1 q119 q104 q105 ⟨Nat.le_of_ble_eq_true rfl, Nat.le_of_ble_eq_true rfl⟩ ?_
  exact kk_vret (pc := 4) hX dJ0_init_4 hr ⟨Nat.le_refl _, Nat.le_refl _⟩ (⟨rfl, rfl, rfl, rfl, rfl⟩)

theorem v_J1i (G : jj_G) (τ : jj_T) (I : jj_I) (L : jj_L) (r : jj_R) (th : Nat) (hth : τ th = some (.inl 33)) : kk_M G yJ1_init (ws_ yJ1_init cJ1_init 1 none) { frames := 2, cells := 0, slots := 0, locals := 40 } [jR (some th)] false τ I L r (jj_eq none τ (jj_u I th 0 0) L r) jj_no := by
  refine kk_intro "java/util/AbstractList" (by decide) rfl (Nat.le_of_ble_eq_true rfl) ?_
  intro X hG hX hr hN hC hF hAd
  refine kk_aload_n (pc := 0) hX dJ1_init_0 rfl ?_
  refine kk_callI (pc := 1) hX (v_J0i X.1 _ _ _ _ th) dJ1_init_1 (lw_meth q118) ⟨q116, q117, q51, rfl⟩ ⟨by decide +kernel, by decide +kernel, by show _ = some (0 : Nat); decide +kernel⟩ ⟨Nat.le_of_ble_eq_true rfl, Nat.le_of_ble_eq_true rfl, Nat.le_of_ble_eq_true rfl, Nat.le_of_ble_eq_true rfl, Nat.le_of_ble_eq_true rfl⟩ (fun q => by cases q) rfl (jj_keq ?_) jj_kno
  refine kk_aload_n (pc := 4) hX dJ1_init_4 rfl ?_
  refine kk_iconst (pc := 5) hX (v := 0) dJ1_init_5 (by decide) ?_
  refine kk_putI (pc := 6) hX fl_J1_7_33 dJ1_init_6 hth rfl rfl ?_
  exact kk_vret (pc := 9) hX dJ1_init_9 hr ⟨Nat.le_refl _, Nat.le_refl _⟩ (⟨rfl, rfl, rfl, rfl, rfl⟩)

theorem v_J2i (G : jj_G) (τ : jj_T) (I : jj_I) (L : jj_L) (r : jj_R) (th : Nat) (hth : τ th = some (.inl 33)) : kk_M G yJ2_init (ws_ yJ2_init cJ2_init 1 none) { frames := 3, cells := 0, slots := 0, locals := 60 } [jR (some th)] false τ I L r (jj_eq none τ (jj_u I th 0 0) L (jj_u r th 1 (some 0))) jj_no := by
  refine kk_intro "java/util/ArrayList" (by decide) rfl (Nat.le_of_ble_eq_true rfl) ?_
  intro X hG hX hr hN hC hF hAd
  refine kk_aload_n (pc := 0) hX dJ2_init_0 rfl ?_
  refine kk_callI (pc := 1) hX (v_J1i X.1 _ _ _ _ th hth) dJ2_init_1 (lw_meth q115) ⟨q113, q114, q52, rfl⟩ ⟨by decide +kernel, by decide +kernel, by show _ = some (0 : Nat); decide +kernel⟩ ⟨Nat.le_of_ble_eq_true rfl, Nat.le_of_ble_eq_true rfl, Nat.le_of_ble_eq_true rfl, Nat.le_of_ble_eq_true rfl, Nat.le_of_ble_eq_true rfl⟩ (fun q => by cases q) rfl (jj_keq ?_) jj_kno
  refine kk_aload_n (pc := 4) hX dJ2_init_4 rfl ?_
  refine kk_gets0 (pc := 5) hX dJ2_init_5 q120 ?_
  refine kk_putR (pc := 8) hX fl_J2_9_33 dJ2_init_8 hth rfl ?_
  exact kk_vret (pc := 11) hX dJ2_init_11 hr ⟨Nat.le_refl _, Nat.le_refl _⟩ (⟨rfl, rfl, rfl, rfl, rfl⟩)

theorem v_J9i (G : jj_G) (τ : jj_T) (I : jj_I) (L : jj_L) (r : jj_R) (th : Nat) (hth : τ th = some (.inl 32)) : kk_M G yJ9_init_2 (ws_ yJ9_init_2 cJ9_init_2 5 none) { frames := 1, cells := 0, slots := 0, locals := 20 } [jR (some th), jR none, jR none, jI 0, jI 0] false τ I L r (jj_eq none τ I L (jj_u (jj_u (jj_u (jj_u (jj_u (jj_u (jj_u r th 0 (some th)) th 1 (some 5)) th 2 (some 6)) th 1 none) th 3 none) th 0 none) th 2 none)) jj_no := by
  refine kk_intro "java/lang/Throwable" (by decide) rfl (Nat.le_of_ble_eq_true rfl) ?_
  intro X hG hX hr hN hC hF hAd
  refine kk_aload_n (pc := 0) hX dJ9_init_2_0 rfl ?_
  refine kk_objInit (pc := 1) hX dJ9_init_2_1 q985 q104 q105 ⟨Nat.le_of_ble_eq_true rfl, Nat.le_of_ble_eq_true rfl⟩ ?_
  refine kk_aload_n (pc := 4) hX dJ9_init_2_4 rfl ?_
  refine kk_aload_n (pc := 5) hX dJ9_init_2_5 rfl ?_
  refine kk_putR (pc := 6) hX fl_J9_7_32 dJ9_init_2_6 hth rfl ?_
  refine kk_aload_n (pc := 9) hX dJ9_init_2_9 rfl ?_
  refine kk_gets4 (pc := 10) hX dJ9_init_2_10 q986 ?_
  refine kk_putR (pc := 13) hX fl_J9_17_32 dJ9_init_2_13 hth rfl ?_
  refine kk_aload_n (pc := 16) hX dJ9_init_2_16 rfl ?_
  refine kk_gets5 (pc := 17) hX dJ9_init_2_17 q988 ?_
  refine kk_putR (pc := 20) hX fl_J9_24_32 dJ9_init_2_20 hth rfl ?_
  refine kk_iload (pc := 23) hX dJ9_init_2_23 rfl ?_
  refine kk_if_eq (pc := 25) hX 36 dJ9_init_2_25 rfl (fun _ => ?_) (fun q => absurd (by decide) q)
  refine kk_aload_n (pc := 36) hX dJ9_init_2_36 rfl ?_
  refine kk_null (pc := 37) hX dJ9_init_2_37 ?_
  refine kk_putR (pc := 38) hX fl_J9_17_32 dJ9_init_2_38 hth rfl ?_
  refine kk_aload_n (pc := 41) hX dJ9_init_2_41 rfl ?_
  refine kk_aload_n (pc := 42) hX dJ9_init_2_42 rfl ?_
  refine kk_putR (pc := 43) hX fl_J9_31_32 dJ9_init_2_43 hth rfl ?_
  refine kk_aload_n (pc := 46) hX dJ9_init_2_46 rfl ?_
  refine kk_aload_n (pc := 47) hX dJ9_init_2_47 rfl ?_
  refine kk_putR (pc := 48) hX fl_J9_7_32 dJ9_init_2_48 hth rfl ?_
  refine kk_iload_n (pc := 51) hX dJ9_init_2_51 rfl ?_
  refine kk_if_ne (pc := 52) hX 60 dJ9_init_2_52 rfl (fun q => absurd (by decide) q) (fun _ => ?_)
  refine kk_aload_n (pc := 55) hX dJ9_init_2_55 rfl ?_
  refine kk_null (pc := 56) hX dJ9_init_2_56 ?_
  refine kk_putR (pc := 57) hX fl_J9_24_32 dJ9_init_2_57 hth rfl ?_
  exact kk_vret (pc := 60) hX dJ9_init_2_60 hr ⟨Nat.le_refl _, Nat.le_refl _⟩ (⟨rfl, rfl, rfl, rfl, rfl⟩)

theorem v_J10i (G : jj_G) (τ : jj_T) (I : jj_I) (L : jj_L) (r : jj_R) (th : Nat) (hth : τ th = some (.inl 32)) : kk_M G yJ10_init (ws_ yJ10_init cJ10_init 5 none) { frames := 2, cells := 0, slots := 0, locals := 44 } [jR (some th), jR none, jR none, jI 0, jI 0] false τ I L r (jj_eq none τ I L (jj_u (jj_u (jj_u (jj_u (jj_u (jj_u (jj_u r th 0 (some th)) th 1 (some 5)) th 2 (some 6)) th 1 none) th 3 none) th 0 none) th 2 none)) jj_no := by
  refine kk_intro "java/lang/Exception" (by decide) rfl (Nat.le_of_ble_eq_true rfl) ?_
  intro X hG hX hr hN hC hF hAd
  refine kk_aload_n (pc := 0) hX dJ10_init_0 rfl ?_
  refine kk_aload_n (pc := 1) hX dJ10_init_1 rfl ?_
  refine kk_aload_n (pc := 2) hX dJ10_init_2 rfl ?_
  refine kk_iload_n (pc := 3) hX dJ10_init_3 rfl ?_
  refine kk_iload (pc := 4) hX dJ10_init_4 rfl ?_
  refine kk_callI (pc := 6) hX (v_J9i X.1 _ _ _ _ th hth) dJ10_init_6 (lw_meth q1007) ⟨q1005, q1006, q93, rfl⟩ ⟨by decide +kernel, by decide +kernel, by show _ = some (4 : Nat); decide +kernel⟩ ⟨Nat.le_of_ble_eq_true rfl, Nat.le_of_ble_eq_true rfl, Nat.le_of_ble_eq_true rfl, Nat.le_of_ble_eq_true rfl, Nat.le_of_ble_eq_true rfl⟩ (fun q => by cases q) rfl (jj_keq ?_) jj_kno
  exact kk_vret (pc := 9) hX dJ10_init_9 hr ⟨Nat.le_refl _, Nat.le_refl _⟩ (⟨rfl, rfl, rfl, rfl, rfl⟩)

theorem v_Fi (G : jj_G) (τ : jj_T) (I : jj_I) (L : jj_L) (r : jj_R) (th : Nat) (hth : τ th = some (.inl 32)) (b : Int32) : kk_M G yX32_init (ws_ yX32_init cX32_init 2 none) { frames := 3, cells := 0, slots := 0, locals := 68 } [jR (some th), jI b] false τ I L r (jj_eq none τ (jj_u I th 6 b) L (jj_u (jj_u (jj_u (jj_u (jj_u (jj_u (jj_u r th 0 (some th)) th 1 (some 5)) th 2 (some 6)) th 1 none) th 3 none) th 0 none) th 2 none)) jj_no := by
  refine kk_intro "BranchCells$Failing" (by decide) rfl (Nat.le_of_ble_eq_true rfl) ?_
  intro X hG hX hr hN hC hF hAd
  refine kk_aload_n (pc := 0) hX dX32_init_0 rfl ?_
  refine kk_null (pc := 1) hX dX32_init_1 ?_
  refine kk_null (pc := 2) hX dX32_init_2 ?_
  refine kk_iconst (pc := 3) hX (v := 0) dX32_init_3 (by decide) ?_
  refine kk_iconst (pc := 4) hX (v := 0) dX32_init_4 (by decide) ?_
  refine kk_callI (pc := 5) hX (v_J10i X.1 _ _ _ _ th hth) dX32_init_5 (lw_meth q1004) ⟨q1002, q1003, q94, rfl⟩ ⟨by decide +kernel, by decide +kernel, by show _ = some (4 : Nat); decide +kernel⟩ ⟨Nat.le_of_ble_eq_true rfl, Nat.le_of_ble_eq_true rfl, Nat.le_of_ble_eq_true rfl, Nat.le_of_ble_eq_true rfl, Nat.le_of_ble_eq_true rfl⟩ (fun q => by cases q) rfl (jj_keq ?_) jj_kno
  refine kk_aload_n (pc := 8) hX dX32_init_8 rfl ?_
  refine kk_iload_n (pc := 9) hX dX32_init_9 rfl ?_
  refine kk_putIF (pc := 10) hX (hC rfl) fl_X32_7_32 ⟨_, jc_32, rfl⟩ dX32_init_10 hth rfl rfl ?_
  exact kk_vret (pc := 13) hX dX32_init_13 hr ⟨Nat.le_refl _, Nat.le_refl _⟩ (⟨rfl, rfl, rfl, rfl, rfl⟩)

theorem v_maxI (G : jj_G) (τ : jj_T) (I : jj_I) (L : jj_L) (r : jj_R) (a b : Int32) : kk_M G yJ4_max (ws_ yJ4_max cJ4_max 2 (some .int)) { frames := 0, cells := 0, slots := 0, locals := 0 } [jI a, jI b] false τ I L r (jj_eq (some (jI (if a < b then b else a))) τ I L r) jj_no := by
  refine kk_introF "java/lang/Math" (by decide +kernel) rfl (Nat.le_of_ble_eq_true rfl) ?_
  intro X hG hX hr hN hC hF hAd
  refine kk_iload_n (pc := 0) hX dJ4_max_0 rfl ?_
  refine kk_iload_n (pc := 1) hX dJ4_max_1 rfl ?_
  refine kk_icmp_lt (pc := 2) hX 9 dJ4_max_2 rfl (fun h2 => ?_) (fun h2 => ?_)
  · refine kk_iload_n (pc := 9) hX dJ4_max_9 rfl ?_
    refine kk_iret (pc := 10) hX dJ4_max_10 hr ⟨Nat.le_refl _, Nat.le_refl _⟩ ?_
    rw [if_pos h2]
    exact ⟨rfl, rfl, rfl, rfl, rfl⟩
  · refine kk_iload_n (pc := 5) hX dJ4_max_5 rfl ?_
    refine kk_goto (pc := 6) hX 10 dJ4_max_6 rfl ?_
    refine kk_iret (pc := 10) hX dJ4_max_10 hr ⟨Nat.le_refl _, Nat.le_refl _⟩ ?_
    rw [if_neg h2]
    exact ⟨rfl, rfl, rfl, rfl, rfl⟩

theorem v_minI (G : jj_G) (τ : jj_T) (I : jj_I) (L : jj_L) (r : jj_R) (a b : Int32) : kk_M G yJ4_min (ws_ yJ4_min cJ4_min 2 (some .int)) { frames := 0, cells := 0, slots := 0, locals := 0 } [jI a, jI b] false τ I L r (jj_eq (some (jI (if a > b then b else a))) τ I L r) jj_no := by
  refine kk_introF "java/lang/Math" (by decide +kernel) rfl (Nat.le_of_ble_eq_true rfl) ?_
  intro X hG hX hr hN hC hF hAd
  refine kk_iload_n (pc := 0) hX dJ4_min_0 rfl ?_
  refine kk_iload_n (pc := 1) hX dJ4_min_1 rfl ?_
  refine kk_icmp_gt (pc := 2) hX 9 dJ4_min_2 rfl (fun h2 => ?_) (fun h2 => ?_)
  · refine kk_iload_n (pc := 9) hX dJ4_min_9 rfl ?_
    refine kk_iret (pc := 10) hX dJ4_min_10 hr ⟨Nat.le_refl _, Nat.le_refl _⟩ ?_
    rw [if_pos h2]
    exact ⟨rfl, rfl, rfl, rfl, rfl⟩
  · refine kk_iload_n (pc := 5) hX dJ4_min_5 rfl ?_
    refine kk_goto (pc := 6) hX 10 dJ4_min_6 rfl ?_
    refine kk_iret (pc := 10) hX dJ4_min_10 hr ⟨Nat.le_refl _, Nat.le_refl _⟩ ?_
    rw [if_neg h2]
    exact ⟨rfl, rfl, rfl, rfl, rfl⟩

theorem v_maxL (G : jj_G) (τ : jj_T) (I : jj_I) (L : jj_L) (r : jj_R) (a b : Int64) : kk_M G yJ4_max_2 (ws_ yJ4_max_2 cJ4_max_2 4 (some .long)) { frames := 0, cells := 0, slots := 0, locals := 0 } [jL a, jL b] false τ I L r (jj_eq (some (jL (if a < b then b else a))) τ I L r) jj_no := by
  refine kk_introF "java/lang/Math" (by decide +kernel) rfl (Nat.le_of_ble_eq_true rfl) ?_
  intro X hG hX hr hN hC hF hAd
  refine kk_lload_n (pc := 0) hX dJ4_max_2_0 rfl ?_
  refine kk_lload_n (pc := 1) hX dJ4_max_2_1 rfl ?_
  refine kk_lcmp (pc := 2) hX dJ4_max_2_2 ?_
  refine kk_if_lt (pc := 3) hX 10 dJ4_max_2_3 rfl (fun h3 => ?_) (fun h3 => ?_)
  · have h3 := (lg_cmp_lt a b).mp h3
    refine kk_lload_n (pc := 10) hX dJ4_max_2_10 rfl ?_
    refine kk_lret (pc := 11) hX dJ4_max_2_11 hr ⟨Nat.le_refl _, Nat.le_refl _⟩ ?_
    rw [if_pos h3]
    exact ⟨rfl, rfl, rfl, rfl, rfl⟩
  · have h3 := (not_congr (lg_cmp_lt a b)).mp h3
    refine kk_lload_n (pc := 6) hX dJ4_max_2_6 rfl ?_
    refine kk_goto (pc := 7) hX 11 dJ4_max_2_7 rfl ?_
    refine kk_lret (pc := 11) hX dJ4_max_2_11 hr ⟨Nat.le_refl _, Nat.le_refl _⟩ ?_
    rw [if_neg h3]
    exact ⟨rfl, rfl, rfl, rfl, rfl⟩

theorem v_minL (G : jj_G) (τ : jj_T) (I : jj_I) (L : jj_L) (r : jj_R) (a b : Int64) : kk_M G yJ4_min_2 (ws_ yJ4_min_2 cJ4_min_2 4 (some .long)) { frames := 0, cells := 0, slots := 0, locals := 0 } [jL a, jL b] false τ I L r (jj_eq (some (jL (if a > b then b else a))) τ I L r) jj_no := by
  refine kk_introF "java/lang/Math" (by decide +kernel) rfl (Nat.le_of_ble_eq_true rfl) ?_
  intro X hG hX hr hN hC hF hAd
  refine kk_lload_n (pc := 0) hX dJ4_min_2_0 rfl ?_
  refine kk_lload_n (pc := 1) hX dJ4_min_2_1 rfl ?_
  refine kk_lcmp (pc := 2) hX dJ4_min_2_2 ?_
  refine kk_if_gt (pc := 3) hX 10 dJ4_min_2_3 rfl (fun h3 => ?_) (fun h3 => ?_)
  · have h3 := (lg_cmp_gt a b).mp h3
    refine kk_lload_n (pc := 10) hX dJ4_min_2_10 rfl ?_
    refine kk_lret (pc := 11) hX dJ4_min_2_11 hr ⟨Nat.le_refl _, Nat.le_refl _⟩ ?_
    rw [if_pos h3]
    exact ⟨rfl, rfl, rfl, rfl, rfl⟩
  · have h3 := (not_congr (lg_cmp_gt a b)).mp h3
    refine kk_lload_n (pc := 6) hX dJ4_min_2_6 rfl ?_
    refine kk_goto (pc := 7) hX 11 dJ4_min_2_7 rfl ?_
    refine kk_lret (pc := 11) hX dJ4_min_2_11 hr ⟨Nat.le_refl _, Nat.le_refl _⟩ ?_
    rw [if_neg h3]
    exact ⟨rfl, rfl, rfl, rfl, rfl⟩

theorem v_equals (G : jj_G) (τ : jj_T) (I : jj_I) (L : jj_L) (r : jj_R) (th : Nat) (x : Option Nat) (h1 : kk_x (some th)) (h2 : kk_x x) : kk_M G yJ13_equals (ws_ yJ13_equals cJ13_equals 2 (some .boolean)) { frames := 0, cells := 0, slots := 0, locals := 0 } [jR (some th), jR x] false τ I L r (jj_eq (some (jI (if some th = x then 1 else 0))) τ I L r) jj_no := by
  refine kk_introF "java/lang/Object" (by decide +kernel) rfl (Nat.le_of_ble_eq_true rfl) ?_
  intro X hG hX hr hN hC hF hAd
  refine kk_aload_n (pc := 0) hX dJ13_equals_0 rfl ?_
  refine kk_aload_n (pc := 1) hX dJ13_equals_1 rfl ?_
  refine kk_acmp_ne (pc := 2) hX 9 h1 h2 dJ13_equals_2 rfl (fun h2 => ?_) (fun h2 => ?_)
  · refine kk_iconst (pc := 9) hX (v := 0) dJ13_equals_9 (by decide) ?_
    refine kk_zret (pc := 10) hX dJ13_equals_10 hr ⟨Nat.le_refl _, Nat.le_refl _⟩ (by decide) ?_
    rw [if_neg h2]
    exact ⟨rfl, rfl, rfl, rfl, rfl⟩
  · refine kk_iconst (pc := 5) hX (v := 1) dJ13_equals_5 (by decide) ?_
    refine kk_goto (pc := 6) hX 10 dJ13_equals_6 rfl ?_
    refine kk_zret (pc := 10) hX dJ13_equals_10 hr ⟨Nat.le_refl _, Nat.le_refl _⟩ (by decide) ?_
    rw [if_pos h2]
    exact ⟨rfl, rfl, rfl, rfl, rfl⟩
