set_option maxRecDepth 100000
theorem v_add (G : jj_G) (τ : jj_T) (I : jj_I) (L : jj_L) (r : jj_R) (th e N n : Nat) (x : Nat) {cx : Nat} {Tx : u_T} {Nx : Nat} {C : String} (hx : τ x = some (.inl cx)) (hcx : jj_cl[cx]? = some (C, Tx, Nx)) (hCs : Cond.castable C "java/lang/Object" ∈ jj_tw) (hth : τ th = some (.inl 33)) (he : τ e = some (.inr (3, N))) (hnN : n < N) (hN9 : N < 1000000) (hre : r th 1 = some e) (hn : I th 2 = nI n) (m0 : Int32) (hm0 : I th 0 = m0) : kk_M G yJ2_add (ws_ yJ2_add cJ2_add 2 (some .boolean)) { frames := 6, cells := 0, slots := 0, locals := 143 } [jR (some th), jR (some x)] false τ I L r (jj_eq (some (jI 1)) τ (jj_u (jj_u I th 0 (m0 + 1)) th 2 (nI n + 1)) L (jj_u r e n (some x))) jj_no := by
  refine kk_intro "java/util/ArrayList" (by decide) rfl (Nat.le_of_ble_eq_true rfl) ?_
  intro X hG hX hr hN hC hF hAd
  refine kk_aload_n (pc := 0) hX dJ2_add_0 rfl ?_
  refine kk_dup (pc := 1) hX dJ2_add_1 rfl ?_
  refine kk_getI (pc := 2) hX fl_J2_63_33 dJ2_add_2 hth rfl ?_
  refine kk_top m0 hm0 ?_
  refine kk_iconst (pc := 5) hX (v := 1) dJ2_add_5 (by decide) ?_
  refine kk_iadd (pc := 6) hX dJ2_add_6 ?_
  refine kk_putI (pc := 7) hX fl_J2_63_33 dJ2_add_7 hth rfl rfl ?_
  refine kk_aload_n (pc := 10) hX dJ2_add_10 rfl ?_
  refine kk_aload_n (pc := 11) hX dJ2_add_11 rfl ?_
  refine kk_aload_n (pc := 12) hX dJ2_add_12 rfl ?_
  refine kk_getR (pc := 13) hX (x := some e) fl_J2_9_33 dJ2_add_13 hth rfl hre ?_
  refine kk_aload_n (pc := 16) hX dJ2_add_16 rfl ?_
  refine kk_getI (pc := 17) hX fl_J2_48_33 dJ2_add_17 hth rfl ?_
  refine kk_top (nI n) (Eq.trans (jj_un (Or.inr (by decide))) hn) ?_
  refine kk_callV (pc := 20) hX (v_add3 X.1 _ _ _ _ th e N n x hx hcx hCs hth he hnN hN9) dJ2_add_20 (lw_V q511 q513 qs4 q53 q514) rfl ⟨by decide +kernel, by decide +kernel, by show _ = some (3 : Nat); decide +kernel⟩ ⟨Nat.le_of_ble_eq_true rfl, Nat.le_of_ble_eq_true rfl, Nat.le_of_ble_eq_true rfl, Nat.le_of_ble_eq_true rfl, Nat.le_of_ble_eq_true rfl⟩ (fun q => by cases q) hth jc_33 rfl (jj_keq ?_) jj_kno
  refine kk_iconst (pc := 23) hX (v := 1) dJ2_add_23 (by decide) ?_
  exact kk_zret (pc := 24) hX dJ2_add_24 hr ⟨Nat.le_refl _, Nat.le_refl _⟩ (by decide) (⟨rfl, rfl, rfl, rfl, rfl⟩)

theorem v_addg (G : jj_G) (τ : jj_T) (I : jj_I) (L : jj_L) (r : jj_R) (th e q N M : Nat) (x : Nat) {cx : Nat} {Tx : u_T} {Nx : Nat} {C : String} (hx : τ x = some (.inl cx)) (hcx : jj_cl[cx]? = some (C, Tx, Nx)) (hCs : Cond.castable C "java/lang/Object" ∈ jj_tw) (he : τ e = some (.inr (3, N))) (hq : τ q = none ∧ ¬ (1 ≤ q ∧ q ≤ 6)) (n d : Nat) (hd : (if nI (n + 1) - nI N < (nI N >>> ((1 : Int32) &&& 31)) then (nI N >>> ((1 : Int32) &&& 31)) else nI (n + 1) - nI N) = nI d) (hMd : M = N + d) (hd1 : 1 ≤ d) (hm : N ≤ n + 1 ∧ n + 1 < 1000000) (hnN : n = N) (hN0 : 0 < N) (hM : 0 < M ∧ M < 1000000) (hel : kk_el τ r e C) (hth : τ th = some (.inl 33)) (hre : r th 1 = some e) (hn : I th 2 = nI n) (m0 : Int32) (hm0 : I th 0 = m0) : kk_M G yJ2_add (ws_ yJ2_add cJ2_add 2 (some .boolean)) { frames := 6, cells := 1, slots := M, locals := 143 } [jR (some th), jR (some x)] true τ I L r (jj_eq (some (jI 1)) (jj_t τ q (.inr (3, M))) (jj_u (jj_z (jj_u I th 0 (m0 + 1)) q 0) th 2 (nI n + 1)) (jj_z L q 0) (jj_u (jj_u (jj_cp (jj_z r q none) e q 0 0 N) th 1 (some q)) q n (some x))) jj_no := by
  refine kk_intro "java/util/ArrayList" (by decide) rfl (Nat.le_of_ble_eq_true rfl) ?_
  intro X hG hX hr hN hC hF hAd
  refine kk_aload_n (pc := 0) hX dJ2_add_0 rfl ?_
  refine kk_dup (pc := 1) hX dJ2_add_1 rfl ?_
  refine kk_getI (pc := 2) hX fl_J2_63_33 dJ2_add_2 hth rfl ?_
  refine kk_top m0 hm0 ?_
  refine kk_iconst (pc := 5) hX (v := 1) dJ2_add_5 (by decide) ?_
  refine kk_iadd (pc := 6) hX dJ2_add_6 ?_
  refine kk_putI (pc := 7) hX fl_J2_63_33 dJ2_add_7 hth rfl rfl ?_
  refine kk_aload_n (pc := 10) hX dJ2_add_10 rfl ?_
  refine kk_aload_n (pc := 11) hX dJ2_add_11 rfl ?_
  refine kk_aload_n (pc := 12) hX dJ2_add_12 rfl ?_
  refine kk_getR (pc := 13) hX (x := some e) fl_J2_9_33 dJ2_add_13 hth rfl hre ?_
  refine kk_aload_n (pc := 16) hX dJ2_add_16 rfl ?_
  refine kk_getI (pc := 17) hX fl_J2_48_33 dJ2_add_17 hth rfl ?_
  refine kk_top (nI n) (Eq.trans (jj_un (Or.inr (by decide))) hn) ?_
  refine kk_callV (pc := 20) hX (v_add3g X.1 _ _ _ _ th e q N M x hx hcx hCs he hq n d hd hMd hd1 hm hnN hN0 hM hel hth hre ((jj_un (Or.inr (by decide))).trans hn)) dJ2_add_20 (lw_V q511 q513 qs4 q53 q514) rfl ⟨by decide +kernel, by decide +kernel, by show _ = some (3 : Nat); decide +kernel⟩ ⟨Nat.le_of_ble_eq_true rfl, Nat.le_of_ble_eq_true rfl, Nat.le_refl _, by show 0 + M ≤ M; omega, Nat.le_of_ble_eq_true rfl⟩ (fun _ => hF rfl) hth jc_33 rfl (jj_keq ?_) jj_kno
  refine kk_iconst (pc := 23) hX (v := 1) dJ2_add_23 (by decide) ?_
  exact kk_zret (pc := 24) hX dJ2_add_24 hr ⟨Nat.le_refl _, by show 0 + M ≤ M; omega⟩ (by decide) (⟨rfl, rfl, rfl, rfl, rfl⟩)

theorem v_adde (G : jj_G) (τ : jj_T) (I : jj_I) (L : jj_L) (r : jj_R) (th q : Nat) (h0 : τ 0 = some (.inr (3, 0))) (hq : τ q = none ∧ ¬ (1 ≤ q ∧ q ≤ 6)) (hth : τ th = some (.inl 33)) (hre : r th 1 = some 0) (x : Nat) {cx : Nat} {Tx : u_T} {Nx : Nat} {C : String} (hx : τ x = some (.inl cx)) (hcx : jj_cl[cx]? = some (C, Tx, Nx)) (hCs : Cond.castable C "java/lang/Object" ∈ jj_tw) (hn : I th 2 = 0) (m0 : Int32) (hm0 : I th 0 = m0) : kk_M G yJ2_add (ws_ yJ2_add cJ2_add 2 (some .boolean)) { frames := 6, cells := 1, slots := 10, locals := 143 } [jR (some th), jR (some x)] true τ I L r (jj_eq (some (jI 1)) (jj_t τ q (.inr (3, 10))) (jj_u (jj_z (jj_u I th 0 (m0 + 1)) q 0) th 2 (0 + 1)) (jj_z L q 0) (jj_u (jj_u (jj_z r q none) th 1 (some q)) q 0 (some x))) jj_no := by
  refine kk_intro "java/util/ArrayList" (by decide) rfl (Nat.le_of_ble_eq_true rfl) ?_
  intro X hG hX hr hN hC hF hAd
  refine kk_aload_n (pc := 0) hX dJ2_add_0 rfl ?_
  refine kk_dup (pc := 1) hX dJ2_add_1 rfl ?_
  refine kk_getI (pc := 2) hX fl_J2_63_33 dJ2_add_2 hth rfl ?_
  refine kk_top m0 hm0 ?_
  refine kk_iconst (pc := 5) hX (v := 1) dJ2_add_5 (by decide) ?_
  refine kk_iadd (pc := 6) hX dJ2_add_6 ?_
  refine kk_putI (pc := 7) hX fl_J2_63_33 dJ2_add_7 hth rfl rfl ?_
  refine kk_aload_n (pc := 10) hX dJ2_add_10 rfl ?_
  refine kk_aload_n (pc := 11) hX dJ2_add_11 rfl ?_
  refine kk_aload_n (pc := 12) hX dJ2_add_12 rfl ?_
  refine kk_getR (pc := 13) hX (x := some 0) fl_J2_9_33 dJ2_add_13 hth rfl hre ?_
  refine kk_aload_n (pc := 16) hX dJ2_add_16 rfl ?_
  refine kk_getI (pc := 17) hX fl_J2_48_33 dJ2_add_17 hth rfl ?_
  refine kk_top (nI 0) (Eq.trans (jj_un (Or.inr (by decide))) hn) ?_
  refine kk_callV (pc := 20) hX (v_add3e X.1 _ _ _ _ th q h0 hq hth hre x hx hcx hCs ((jj_un (Or.inr (by decide))).trans hn)) dJ2_add_20 (lw_V q511 q513 qs4 q53 q514) rfl ⟨by decide +kernel, by decide +kernel, by show _ = some (3 : Nat); decide +kernel⟩ ⟨Nat.le_of_ble_eq_true rfl, Nat.le_of_ble_eq_true rfl, Nat.le_of_ble_eq_true rfl, Nat.le_of_ble_eq_true rfl, Nat.le_of_ble_eq_true rfl⟩ (fun _ => hF rfl) hth jc_33 rfl (jj_keq ?_) jj_kno
  refine kk_iconst (pc := 23) hX (v := 1) dJ2_add_23 (by decide) ?_
  exact kk_zret (pc := 24) hX dJ2_add_24 hr ⟨Nat.le_refl _, Nat.le_refl _⟩ (by decide) (⟨rfl, rfl, rfl, rfl, rfl⟩)

theorem v_itInit (G : jj_G) (τ : jj_T) (I : jj_I) (L : jj_L) (r : jj_R) (it th : Nat) (hit : τ it = some (.inl 34)) (hth : τ th = some (.inl 33)) (m0 : Int32) (hm0 : I th 0 = m0) : kk_M G yJ12_init (ws_ yJ12_init cJ12_init 2 none) { frames := 1, cells := 0, slots := 0, locals := 20 } [jR (some it), jR (some th)] false τ I L r (jj_eq none τ (jj_u (jj_u I it 1 (-1)) it 2 m0) L (jj_u r it 3 (some th))) jj_no := by
  refine kk_intro "java/util/ArrayList$Itr" (by decide) rfl (Nat.le_of_ble_eq_true rfl) ?_
  intro X hG hX hr hN hC hF hAd
  refine kk_aload_n (pc := 0) hX dJ12_init_0 rfl ?_
  refine kk_aload_n (pc := 1) hX dJ12_init_1 rfl ?_
  refine kk_putRF (pc := 2) hX (hC rfl) fl_J12_1_34 ⟨_, jc_34, rfl⟩ dJ12_init_2 hit rfl ?_
  refine kk_aload_n (pc := 5) hX dJ12_init_5 rfl ?_
  refine kk_objInit (pc := 6) hX dJ12_init_6 q1402 q104 q105 ⟨Nat.le_of_ble_eq_true rfl, Nat.le_of_ble_eq_true rfl⟩ ?_
  refine kk_aload_n (pc := 9) hX dJ12_init_9 rfl ?_
  refine kk_iconst (pc := 10) hX (v := (-1)) dJ12_init_10 (by decide) ?_
  refine kk_putI (pc := 11) hX fl_J12_13_34 dJ12_init_11 hit rfl rfl ?_
  refine kk_aload_n (pc := 14) hX dJ12_init_14 rfl ?_
  refine kk_aload_n (pc := 15) hX dJ12_init_15 rfl ?_
  refine kk_getR (pc := 16) hX (x := some th) fl_J12_1_34 dJ12_init_16 hit rfl jj_us ?_
  refine kk_getI (pc := 19) hX fl_J12_17_33 dJ12_init_19 hth rfl ?_
  refine kk_top m0 (Eq.trans (jj_un (Or.inl (Ne.symm (fun z => by rw [z, hth] at hit; cases hit)))) hm0) ?_
  refine kk_putI (pc := 22) hX fl_J12_22_34 dJ12_init_22 hit rfl rfl ?_
  exact kk_vret (pc := 25) hX dJ12_init_25 hr ⟨Nat.le_refl _, Nat.le_refl _⟩ (⟨rfl, rfl, rfl, rfl, rfl⟩)

theorem v_itHas (G : jj_G) (τ : jj_T) (I : jj_I) (L : jj_L) (r : jj_R) (it th : Nat) (hit : τ it = some (.inl 34)) (hth : τ th = some (.inl 33)) (c n : Nat) (hr3 : r it 3 = some th) (hc : I it 0 = nI c) (hn : I th 2 = nI n) (hb : c < 1000000 ∧ n < 1000000) : kk_M G yJ12_hasNext (ws_ yJ12_hasNext cJ12_hasNext 1 (some .boolean)) { frames := 0, cells := 0, slots := 0, locals := 0 } [jR (some it)] false τ I L r (jj_eq (some (jI (if c = n then 0 else 1))) τ I L r) jj_no := by
  refine kk_intro "java/util/ArrayList$Itr" (by decide) rfl (Nat.le_of_ble_eq_true rfl) ?_
  intro X hG hX hr hN hC hF hAd
  refine kk_aload_n (pc := 0) hX dJ12_hasNext_0 rfl ?_
  refine kk_getI (pc := 1) hX fl_J12_25_34 dJ12_hasNext_1 hit rfl ?_
  refine kk_top (nI c) hc ?_
  refine kk_aload_n (pc := 4) hX dJ12_hasNext_4 rfl ?_
  refine kk_getR (pc := 5) hX (x := some th) fl_J12_1_34 dJ12_hasNext_5 hit rfl hr3 ?_
  refine kk_getI (pc := 8) hX fl_J12_28_33 dJ12_hasNext_8 hth rfl ?_
  refine kk_top (nI n) hn ?_
  refine kk_icmp_eq (pc := 11) hX 18 dJ12_hasNext_11 rfl (fun h11 => ?_) (fun h11 => ?_)
  · refine kk_iconst (pc := 18) hX (v := 0) dJ12_hasNext_18 (by decide) ?_
    refine kk_zret (pc := 19) hX dJ12_hasNext_19 hr ⟨Nat.le_refl _, Nat.le_refl _⟩ (by decide) ?_
    rw [if_pos ((nI_eq (by omega) (by omega)).mp h11)]
    exact ⟨rfl, rfl, rfl, rfl, rfl⟩
  · refine kk_iconst (pc := 14) hX (v := 1) dJ12_hasNext_14 (by decide) ?_
    refine kk_goto (pc := 15) hX 19 dJ12_hasNext_15 rfl ?_
    refine kk_zret (pc := 19) hX dJ12_hasNext_19 hr ⟨Nat.le_refl _, Nat.le_refl _⟩ (by decide) ?_
    rw [if_neg (fun z => h11 (by rw [z]))]
    exact ⟨rfl, rfl, rfl, rfl, rfl⟩

theorem v_itMod (G : jj_G) (τ : jj_T) (I : jj_I) (L : jj_L) (r : jj_R) (it th : Nat) (hit : τ it = some (.inl 34)) (hth : τ th = some (.inl 33)) (hr3 : r it 3 = some th) (hm : I th 0 = I it 2) : kk_M G yJ12_checkForComodification (ws_ yJ12_checkForComodification cJ12_checkForComodification 1 none) { frames := 0, cells := 0, slots := 0, locals := 0 } [jR (some it)] false τ I L r (jj_eq none τ I L r) jj_no := by
  refine kk_intro "java/util/ArrayList$Itr" (by decide) rfl (Nat.le_of_ble_eq_true rfl) ?_
  intro X hG hX hr hN hC hF hAd
  refine kk_aload_n (pc := 0) hX dJ12_checkForComodification_0 rfl ?_
  refine kk_getR (pc := 1) hX (x := some th) fl_J12_1_34 dJ12_checkForComodification_1 hit rfl hr3 ?_
  refine kk_getI (pc := 4) hX fl_J12_17_33 dJ12_checkForComodification_4 hth rfl ?_
  refine kk_aload_n (pc := 7) hX dJ12_checkForComodification_7 rfl ?_
  refine kk_getI (pc := 8) hX fl_J12_22_34 dJ12_checkForComodification_8 hit rfl ?_
  refine kk_icmp_eq (pc := 11) hX 22 dJ12_checkForComodification_11 rfl (fun _ => ?_) (fun q => absurd hm q)
  exact kk_vret (pc := 22) hX dJ12_checkForComodification_22 hr ⟨Nat.le_refl _, Nat.le_refl _⟩ (⟨rfl, rfl, rfl, rfl, rfl⟩)

theorem v_itNext (G : jj_G) (τ : jj_T) (I : jj_I) (L : jj_L) (r : jj_R) (it th : Nat) (hit : τ it = some (.inl 34)) (hth : τ th = some (.inl 33)) (c n e N : Nat) (x : Option Nat) (hr3 : r it 3 = some th) (hm : I th 0 = I it 2) (hc : I it 0 = nI c) (hn : I th 2 = nI n) (hcn : c < n) (hnN : n ≤ N) (hN9 : N < 1000000) (hre : r th 1 = some e) (he : τ e = some (.inr (3, N))) (hx : r e c = x) : kk_M G yJ12_next (ws_ yJ12_next cJ12_next 3 (some (.object "java/lang/Object"))) { frames := 1, cells := 0, slots := 0, locals := 20 } [jR (some it)] false τ I L r (jj_eq (some (jR x)) τ (jj_u (jj_u I it 0 (nI c + 1)) it 1 (nI c)) L r) jj_no := by
  refine kk_intro "java/util/ArrayList$Itr" (by decide) rfl (Nat.le_of_ble_eq_true rfl) ?_
  intro X hG hX hr hN hC hF hAd
  refine kk_aload_n (pc := 0) hX dJ12_next_0 rfl ?_
  refine kk_callV (pc := 1) hX (v_itMod X.1 _ _ _ _ it th hit hth hr3 hm) dJ12_next_1 (lw_V q1435 q1436 q1437 q97 q1438) rfl ⟨by decide +kernel, by decide +kernel, by show _ = some (0 : Nat); decide +kernel⟩ ⟨Nat.le_of_ble_eq_true rfl, Nat.le_of_ble_eq_true rfl, Nat.le_of_ble_eq_true rfl, Nat.le_of_ble_eq_true rfl, Nat.le_of_ble_eq_true rfl⟩ (fun q => by cases q) hit jc_34 rfl (jj_keq ?_) jj_kno
  refine kk_aload_n (pc := 4) hX dJ12_next_4 rfl ?_
  refine kk_getI (pc := 5) hX fl_J12_25_34 dJ12_next_5 hit rfl ?_
  refine kk_top (nI c) hc ?_
  refine kk_istore_n (pc := 8) hX dJ12_next_8 (by decide) ?_
  refine kk_iload_n (pc := 9) hX dJ12_next_9 rfl ?_
  refine kk_aload_n (pc := 10) hX dJ12_next_10 rfl ?_
  refine kk_getR (pc := 11) hX (x := some th) fl_J12_1_34 dJ12_next_11 hit rfl hr3 ?_
  refine kk_getI (pc := 14) hX fl_J12_28_33 dJ12_next_14 hth rfl ?_
  refine kk_top (nI n) hn ?_
  refine kk_icmp_lt (pc := 17) hX 28 dJ12_next_17 rfl (fun _ => ?_) (fun q => absurd (nI_lt hcn (by omega)) q)
  refine kk_aload_n (pc := 28) hX dJ12_next_28 rfl ?_
  refine kk_getR (pc := 29) hX (x := some th) fl_J12_1_34 dJ12_next_29 hit rfl hr3 ?_
  refine kk_getR (pc := 32) hX (x := some e) fl_J12_37_33 dJ12_next_32 hth rfl hre ?_
  refine kk_astore_n (pc := 35) hX dJ12_next_35 (by decide) ?_
  refine kk_iload_n (pc := 36) hX dJ12_next_36 rfl ?_
  refine kk_aload_n (pc := 37) hX dJ12_next_37 rfl ?_
  refine kk_alen (pc := 38) hX dJ12_next_38 he ?_
  refine kk_icmp_lt (pc := 39) hX 50 dJ12_next_39 rfl (fun _ => ?_) (fun q => absurd (nI_lt (show c < N by omega) (by omega)) q)
  refine kk_aload_n (pc := 50) hX dJ12_next_50 rfl ?_
  refine kk_iload_n (pc := 51) hX dJ12_next_51 rfl ?_
  refine kk_iconst (pc := 52) hX (v := 1) dJ12_next_52 (by decide) ?_
  refine kk_iadd (pc := 53) hX dJ12_next_53 ?_
  refine kk_putI (pc := 54) hX fl_J12_25_34 dJ12_next_54 hit rfl rfl ?_
  refine kk_aload_n (pc := 57) hX dJ12_next_57 rfl ?_
  refine kk_aload_n (pc := 58) hX dJ12_next_58 rfl ?_
  refine kk_iload_n (pc := 59) hX dJ12_next_59 rfl ?_
  refine kk_dup_x1 (pc := 60) hX dJ12_next_60 rfl rfl ?_
  refine kk_putI (pc := 61) hX fl_J12_13_34 dJ12_next_61 hit rfl rfl ?_
  refine kk_aald (pc := 64) hX (x := x) c dJ12_next_64 he (by decide) rfl ⟨by omega, by omega⟩ hx ?_
  exact kk_aret (pc := 65) hX dJ12_next_65 hr ⟨Nat.le_refl _, Nat.le_refl _⟩ (Or.inl ⟨_, rfl⟩) (⟨rfl, rfl, rfl, rfl, rfl⟩)

theorem v_iter (G : jj_G) (τ : jj_T) (I : jj_I) (L : jj_L) (r : jj_R) (th it : Nat) (hth : τ th = some (.inl 33)) (hit : τ it = none ∧ ¬ (1 ≤ it ∧ it ≤ 6)) (m0 : Int32) (hm0 : I th 0 = m0) : kk_M G yJ2_iterator (ws_ yJ2_iterator cJ2_iterator 1 (some (.object "java/util/Iterator"))) { frames := 2, cells := 1, slots := 4, locals := 41 } [jR (some th)] true τ I L r (jj_eq (some (jR (some it))) (jj_t τ it (.inl 34)) (jj_u (jj_u (jj_z I it 0) it 1 (-1)) it 2 m0) (jj_z L it 0) (jj_u (jj_z r it none) it 3 (some th))) jj_no := by
  refine kk_intro "java/util/ArrayList" (by decide) rfl (Nat.le_of_ble_eq_true rfl) ?_
  intro X hG hX hr hN hC hF hAd
  refine kk_new (pc := 0) hX it ⟨hit.1, hit.2⟩ (hF rfl) dJ2_iterator_0 jc_34 q1397 q1398 q97 (by decide) ⟨Nat.le_of_ble_eq_true rfl, Nat.le_of_ble_eq_true rfl⟩ ?_
  refine kk_dup (pc := 3) hX dJ2_iterator_3 rfl ?_
  refine kk_aload_n (pc := 4) hX dJ2_iterator_4 rfl ?_
  refine kk_callI (pc := 5) hX (v_itInit X.1 _ _ _ _ it th jj_ts ((jj_tn (kk_nf hth hit.1)).trans hth) m0 ((congrFun (jj_zn (kk_nf hth hit.1)) 0).trans hm0)) dJ2_iterator_5 (lw_meth q1401) ⟨q1399, q1400, q97, rfl⟩ ⟨by decide +kernel, by decide +kernel, by show _ = some (1 : Nat); decide +kernel⟩ ⟨Nat.le_of_ble_eq_true rfl, Nat.le_of_ble_eq_true rfl, Nat.le_of_ble_eq_true rfl, Nat.le_of_ble_eq_true rfl, Nat.le_of_ble_eq_true rfl⟩ (fun q => by cases q) rfl (jj_keq ?_) jj_kno
  exact kk_aret (pc := 8) hX dJ2_iterator_8 hr ⟨Nat.le_refl _, Nat.le_refl _⟩ (Or.inl ⟨_, rfl⟩) (⟨rfl, rfl, rfl, rfl, rfl⟩)

def jj_nul (r : jj_R) (e : Nat) : Nat → Nat → jj_R
  | 0, _ => r
  | f + 1, k => jj_nul (jj_u r e k none) e f (k + 1)
theorem jj_nul_o {e b : Nat} (h : b ≠ e) : ∀ (f k : Nat) (r : jj_R), jj_nul r e f k b = r b
  | 0, _, _ => rfl
  | f + 1, k, r => (jj_nul_o h f (k + 1) _).trans (jj_ua h)
theorem jj_nul_i {e : Nat} : ∀ (f k : Nat) (r : jj_R) (j : Nat), jj_nul r e f k e j = if k ≤ j ∧ j < k + f then none else r e j := by
  intro f
  induction f with
  | zero => intro k r j; rw [if_neg (by omega)]; rfl
  | succ f ih =>
    intro k r j
    show jj_nul (jj_u r e k none) e f (k + 1) e j = _
    rw [ih]
    by_cases h : j = k
    · subst h
      rw [if_neg (by omega), if_pos (by omega), jj_us]
    · rw [jj_un (Or.inr h)]
      by_cases h2 : k + 1 ≤ j ∧ j < k + 1 + f
      · rw [if_pos h2, if_pos (by omega)]
      · rw [if_neg h2, if_neg (by omega)]
theorem v_clear_l {X : jj_X} {o : jj_T} (hX : kk_ok X cJ2_clear "java/util/ArrayList" 4 0 0 0 0) {Q : State → Prop} {τ : jj_T} {I : jj_I} {L : jj_L} (th e N n : Nat) (he : τ e = some (.inr (3, N))) (hnN : n ≤ N) (hN9 : N < 1000000) (re : jj_R) : ∀ (f k : Nat) (r : jj_R), k + f = n → jj_nul r e f k = re → kk_J X o Q 0 0 42 [(0, jR (some th)), (1, jR (some e)), (2, jI (nI n))] [] τ I L re → kk_J X o Q 0 0 27 [(0, jR (some th)), (1, jR (some e)), (2, jI (nI n)), (3, jI (nI k))] [] τ I L r := by
  intro f
  induction f with
  | zero =>
    intro k r hk hr9 K
    unfold jj_nul at hr9
    subst hr9
    have h9 : nI n ≤ nI k := nI_le (by omega) (by omega)
    refine kk_iload_n (pc := 27) hX dJ2_clear_27 rfl ?_
    refine kk_iload_n (pc := 28) hX dJ2_clear_28 rfl ?_
    refine kk_icmp_ge (pc := 29) hX 42 dJ2_clear_29 rfl (fun _ => ?_) (fun q => absurd h9 q)
    refine kk_lss [(0, jR (some th)), (1, jR (some e)), (2, jI (nI n))] ⟨rfl, rfl, rfl, trivial⟩ ?_
    exact K
  | succ f ih =>
    intro k r hk hr9 K
    unfold jj_nul at hr9
    have h9 : ¬ nI n ≤ nI k := nI_ge (by omega) (by omega)
    refine kk_iload_n (pc := 27) hX dJ2_clear_27 rfl ?_
    refine kk_iload_n (pc := 28) hX dJ2_clear_28 rfl ?_
    refine kk_icmp_ge (pc := 29) hX 42 dJ2_clear_29 rfl (fun q => absurd q h9) (fun _ => ?_)
    refine kk_aload_n (pc := 32) hX dJ2_clear_32 rfl ?_
    refine kk_iload_n (pc := 33) hX dJ2_clear_33 rfl ?_
    refine kk_null (pc := 34) hX dJ2_clear_34 ?_
    refine kk_aastN (pc := 35) hX k dJ2_clear_35 he (by decide) rfl rfl ⟨by omega, by omega⟩ ?_
    refine kk_iinc (pc := 36) hX (v := nI (k + 1)) dJ2_clear_36 rfl (kx_inc rfl) (by decide) ?_
    refine kk_goto (pc := 39) hX 27 dJ2_clear_39 rfl ?_
    refine kk_lss [(0, jR (some th)), (1, jR (some e)), (2, jI (nI n)), (3, jI (nI (k + 1)))] ⟨rfl, rfl, rfl, rfl, trivial⟩ ?_
    exact ih (k + 1) _ (by omega) hr9 K

theorem v_clear (G : jj_G) (τ : jj_T) (I : jj_I) (L : jj_L) (r : jj_R) (th e N n : Nat) (hth : τ th = some (.inl 33)) (he : τ e = some (.inr (3, N))) (hre : r th 1 = some e) (hn : I th 2 = nI n) (hnN : n ≤ N) (hN9 : N < 1000000) (m0 : Int32) (hm0 : I th 0 = m0) : kk_M G yJ2_clear (ws_ yJ2_clear cJ2_clear 4 none) { frames := 0, cells := 0, slots := 0, locals := 0 } [jR (some th)] false τ I L r (jj_eq none τ (jj_u (jj_u I th 0 (m0 + 1)) th 2 0) L (jj_nul r e n 0)) jj_no := by
  refine kk_intro "java/util/ArrayList" (by decide) rfl (Nat.le_of_ble_eq_true rfl) ?_
  intro X hG hX hr hN hC hF hAd
  refine kk_aload_n (pc := 0) hX dJ2_clear_0 rfl ?_
  refine kk_dup (pc := 1) hX dJ2_clear_1 rfl ?_
  refine kk_getI (pc := 2) hX fl_J2_63_33 dJ2_clear_2 hth rfl ?_
  refine kk_top m0 hm0 ?_
  refine kk_iconst (pc := 5) hX (v := 1) dJ2_clear_5 (by decide) ?_
  refine kk_iadd (pc := 6) hX dJ2_clear_6 ?_
  refine kk_putI (pc := 7) hX fl_J2_63_33 dJ2_clear_7 hth rfl rfl ?_
  refine kk_aload_n (pc := 10) hX dJ2_clear_10 rfl ?_
  refine kk_getR (pc := 11) hX (x := some e) fl_J2_9_33 dJ2_clear_11 hth rfl hre ?_
  refine kk_astore_n (pc := 14) hX dJ2_clear_14 (by decide) ?_
  refine kk_aload_n (pc := 15) hX dJ2_clear_15 rfl ?_
  refine kk_getI (pc := 16) hX fl_J2_48_33 dJ2_clear_16 hth rfl ?_
  refine kk_top (nI n) (Eq.trans (jj_un (Or.inr (by decide))) hn) ?_
  refine kk_istore_n (pc := 19) hX dJ2_clear_19 (by decide) ?_
  refine kk_aload_n (pc := 20) hX dJ2_clear_20 rfl ?_
  refine kk_iconst (pc := 21) hX (v := 0) dJ2_clear_21 (by decide) ?_
  refine kk_dup_x1 (pc := 22) hX dJ2_clear_22 rfl rfl ?_
  refine kk_putI (pc := 23) hX fl_J2_48_33 dJ2_clear_23 hth rfl rfl ?_
  refine kk_istore_n (pc := 26) hX dJ2_clear_26 (by decide) ?_
  refine kk_lss [(0, jR (some th)), (1, jR (some e)), (2, jI (nI n)), (3, jI (nI 0))] ⟨rfl, rfl, rfl, rfl, trivial⟩ ?_
  refine v_clear_l hX th e N n he hnN hN9 _ n 0 r (Nat.zero_add _) rfl ?_
  exact kk_vret (pc := 42) hX dJ2_clear_42 hr ⟨Nat.le_refl _, Nat.le_refl _⟩ (⟨rfl, rfl, rfl, rfl, rfl⟩)
