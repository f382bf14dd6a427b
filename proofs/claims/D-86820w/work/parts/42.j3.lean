set_option maxRecDepth 100000
theorem kk_nf {τ : jj_T} {b q : Nat} {t : Nat ⊕ (Nat × Nat)} (h : τ b = some t) (hq : τ q = none) : b ≠ q := fun z => by rw [z, hq] at h; cases h
/-- what an array holds are things of one class -/
def kk_el (τ : jj_T) (r : jj_R) (e : Nat) (C : String) : Prop := ∀ i y, r e i = some y → ∃ ci T NN, τ y = some (.inl ci) ∧ jj_cl[ci]? = some (C, T, NN)
theorem kk_el.new {τ : jj_T} {r : jj_R} {e q : Nat} {C : String} {t : Nat ⊕ (Nat × Nat)} (h : kk_el τ r e C) (he : e ≠ q) (hq : τ q = none) : kk_el (jj_t τ q t) (jj_z r q none) e C := by
  intro i y hy
  rw [jj_zn he] at hy
  obtain ⟨ci, T, NN, h1, h2⟩ := h i y hy
  exact ⟨ci, T, NN, (jj_tn (kk_nf h1 hq)).trans h1, h2⟩
theorem v_newLength (G : jj_G) (τ : jj_T) (I : jj_I) (L : jj_L) (r : jj_R) (a d : Nat) (b c : Int32) (hd : (if b < c then c else b) = nI d) (h1 : 1 ≤ a + d) (h2 : a + d < 1000000) : kk_M G yJ3_newLength (ws_ yJ3_newLength cJ3_newLength 4 (some .int)) { frames := 1, cells := 0, slots := 0, locals := 22 } [jI (nI a), jI b, jI c] false τ I L r (jj_eq (some (jI (nI (a + d)))) τ I L r) jj_no := by
  refine kk_intro "jdk/internal/util/ArraysSupport" (by decide) rfl (Nat.le_of_ble_eq_true rfl) ?_
  intro X hG hX hr hN hC hF hAd
  refine kk_iload_n (pc := 0) hX dJ3_newLength_0 rfl ?_
  refine kk_iload_n (pc := 1) hX dJ3_newLength_1 rfl ?_
  refine kk_iload_n (pc := 2) hX dJ3_newLength_2 rfl ?_
  refine kk_callS (pc := 3) hX (v_maxI X.1 _ _ _ _ b c) dJ3_newLength_3 (lw_S q526 q527 q81 q528) ⟨by decide +kernel, by decide +kernel, by show _ = some (2 : Nat); decide +kernel⟩ ⟨Nat.le_of_ble_eq_true rfl, Nat.le_of_ble_eq_true rfl, Nat.le_of_ble_eq_true rfl, Nat.le_of_ble_eq_true rfl, Nat.le_of_ble_eq_true rfl⟩ (fun q => by cases q) rfl (jj_keq ?_) jj_kno
  refine kk_top (nI d) hd ?_
  refine kk_iadd (pc := 6) hX dJ3_newLength_6 ?_
  refine kk_top (nI (a + d)) (nI_add a d) ?_
  refine kk_istore_n (pc := 7) hX dJ3_newLength_7 (by decide) ?_
  refine kk_iconst (pc := 8) hX (v := 0) dJ3_newLength_8 (by decide) ?_
  refine kk_iload_n (pc := 9) hX dJ3_newLength_9 rfl ?_
  refine kk_icmp_ge (pc := 10) hX 21 dJ3_newLength_10 rfl (fun q => absurd q (nI_nle (by omega) (by omega))) (fun _ => ?_)
  refine kk_iload_n (pc := 13) hX dJ3_newLength_13 rfl ?_
  refine kk_ldc (pc := 14) hX (v := 2147483639) q529 dJ3_newLength_14 ?_
  refine kk_icmp_gt (pc := 16) hX 21 dJ3_newLength_16 rfl (fun q => absurd q (fun z => absurd (Int32.not_le.mpr z) (fun w => w (nI_le (b := 2147483639) (by omega) (by decide))))) (fun _ => ?_)
  refine kk_iload_n (pc := 19) hX dJ3_newLength_19 rfl ?_
  exact kk_iret (pc := 20) hX dJ3_newLength_20 hr ⟨Nat.le_refl _, Nat.le_refl _⟩ (⟨rfl, rfl, rfl, rfl, rfl⟩)

theorem v_copyOf2 (G : jj_G) (τ : jj_T) (I : jj_I) (L : jj_L) (r : jj_R) (e q N M : Nat) (C : String) (he : τ e = some (.inr (3, N))) (hq : τ q = none ∧ ¬ (1 ≤ q ∧ q ≤ 6)) (hNM : N ≤ M) (hM : 0 < M ∧ M < 1000000) (hel : kk_el τ r e C) (hCs : Cond.castable C "java/lang/Object" ∈ jj_tw) : kk_M G yJ5_copyOf_2 (ws_ yJ5_copyOf_2 cJ5_copyOf_2 4 (some (.array (.object "java/lang/Object")))) { frames := 1, cells := 1, slots := M, locals := 33 } [jR (some e), jI (nI M), jR (some 4)] true τ I L r (jj_eq (some (jR (some q))) (jj_t τ q (.inr (3, M))) (jj_z I q 0) (jj_z L q 0) (jj_cp (jj_z r q none) e q 0 0 N)) jj_no := by
  refine kk_intro "java/util/Arrays" (by decide) rfl (Nat.le_of_ble_eq_true rfl) ?_
  intro X hG hX hr hN hC hF hAd
  refine kk_aload_n (pc := 0) hX dJ5_copyOf_2_0 rfl ?_
  refine kk_ldcM (pc := 1) hX dJ5_copyOf_2_1 q577 ?_
  refine kk_acmp_ne (pc := 3) hX 13 ⟨by simp, by simp⟩ ⟨by simp, by simp⟩ dJ5_copyOf_2_3 rfl (fun q => absurd rfl q) (fun _ => ?_)
  refine kk_iload_n (pc := 6) hX dJ5_copyOf_2_6 rfl ?_
  refine kk_newq (pc := 7) hX 3 M q ⟨hq.1, hq.2⟩ (hF rfl) dJ5_copyOf_2_7 rfl (by decide) q579 (jj_inT q578 rfl) rfl hM.2 ⟨by show 0 + 1 ≤ 1; omega, by show 0 + M ≤ M; omega⟩ ?_
  refine kk_goto (pc := 10) hX 24 dJ5_copyOf_2_10 rfl ?_
  refine kk_astore_n (pc := 24) hX dJ5_copyOf_2_24 (by decide) ?_
  refine kk_aload_n (pc := 25) hX dJ5_copyOf_2_25 rfl ?_
  refine kk_iconst (pc := 26) hX (v := 0) dJ5_copyOf_2_26 (by decide) ?_
  refine kk_aload_n (pc := 27) hX dJ5_copyOf_2_27 rfl ?_
  refine kk_iconst (pc := 28) hX (v := 0) dJ5_copyOf_2_28 (by decide) ?_
  refine kk_aload_n (pc := 29) hX dJ5_copyOf_2_29 rfl ?_
  refine kk_alen (pc := 30) hX dJ5_copyOf_2_30 (Eq.trans (jj_tn (kk_nf he hq.1)) he) ?_
  refine kk_iload_n (pc := 31) hX dJ5_copyOf_2_31 rfl ?_
  refine kk_callS (pc := 32) hX (v_minI X.1 _ _ _ _ (nI N) (nI M)) dJ5_copyOf_2_32 (lw_S q580 q581 q81 q582) ⟨by decide +kernel, by decide +kernel, by show _ = some (2 : Nat); decide +kernel⟩ ⟨Nat.le_of_ble_eq_true rfl, Nat.le_of_ble_eq_true rfl, Nat.le_of_ble_eq_true rfl, by show 0 + M + 0 ≤ M; omega, Nat.le_of_ble_eq_true rfl⟩ (fun q => by cases q) rfl (jj_keq ?_) jj_kno
  refine kk_top (nI N) (if_neg (fun z => absurd (Int32.not_le.mpr z) (fun w => w (nI_le hNM (by omega))))) ?_
  refine kk_copy (pc := 35) hX 0 0 N dJ5_copyOf_2_35 ⟨q583, q585, q584, q83⟩ (Eq.trans (jj_tn (kk_nf he hq.1)) he) jj_ts rfl rfl rfl ⟨by omega, by omega, by omega, by omega, by omega⟩ (fun i _ y hy => (hel.new (kk_nf he hq.1) hq.1) (0 + i) y hy) hCs ⟨Nat.le_of_ble_eq_true rfl, Nat.le_of_ble_eq_true rfl⟩ ?_
  refine kk_aload_n (pc := 38) hX dJ5_copyOf_2_38 rfl ?_
  exact kk_aret (pc := 39) hX dJ5_copyOf_2_39 hr ⟨Nat.le_refl _, by show 0 + M + 0 ≤ M; omega⟩ (Or.inr ⟨_, rfl⟩) (⟨rfl, rfl, rfl, rfl, rfl⟩)

theorem v_copyOf (G : jj_G) (τ : jj_T) (I : jj_I) (L : jj_L) (r : jj_R) (e q N M : Nat) (C : String) (he : τ e = some (.inr (3, N))) (hq : τ q = none ∧ ¬ (1 ≤ q ∧ q ≤ 6)) (hNM : N ≤ M) (hM : 0 < M ∧ M < 1000000) (hel : kk_el τ r e C) (hCs : Cond.castable C "java/lang/Object" ∈ jj_tw) : kk_M G yJ5_copyOf (ws_ yJ5_copyOf cJ5_copyOf 2 (some (.array (.object "java/lang/Object")))) { frames := 2, cells := 1, slots := M, locals := 56 } [jR (some e), jI (nI M)] true τ I L r (jj_eq (some (jR (some q))) (jj_t τ q (.inr (3, M))) (jj_z I q 0) (jj_z L q 0) (jj_cp (jj_z r q none) e q 0 0 N)) jj_no := by
  refine kk_intro "java/util/Arrays" (by decide) rfl (Nat.le_of_ble_eq_true rfl) ?_
  intro X hG hX hr hN hC hF hAd
  refine kk_aload_n (pc := 0) hX dJ5_copyOf_0 rfl ?_
  refine kk_iload_n (pc := 1) hX dJ5_copyOf_1 rfl ?_
  refine kk_aload_n (pc := 2) hX dJ5_copyOf_2 rfl ?_
  refine kk_getC (pc := 3) hX dJ5_copyOf_3 he ⟨q536, q1866, q537, q573⟩ (jj_inT q1867 rfl) ⟨Nat.le_of_ble_eq_true rfl, Nat.le_of_ble_eq_true rfl⟩ ?_
  refine kk_callS (pc := 6) hX (v_copyOf2 X.1 _ _ _ _ e q N M C he hq hNM hM hel hCs) dJ5_copyOf_6 (lw_S q574 q575 q82 q576) ⟨by decide +kernel, by decide +kernel, by show _ = some (3 : Nat); decide +kernel⟩ ⟨Nat.le_of_ble_eq_true rfl, Nat.le_of_ble_eq_true rfl, Nat.le_refl _, by show 0 + M ≤ M; omega, Nat.le_of_ble_eq_true rfl⟩ (fun _ => hF rfl) rfl (jj_keq ?_) jj_kno
  exact kk_aret (pc := 9) hX dJ5_copyOf_9 hr ⟨Nat.le_refl _, by show 0 + M ≤ M; omega⟩ (Or.inr ⟨_, rfl⟩) (⟨rfl, rfl, rfl, rfl, rfl⟩)

theorem v_grow2 (G : jj_G) (τ : jj_T) (I : jj_I) (L : jj_L) (r : jj_R) (th e q N M : Nat) (C : String) (he : τ e = some (.inr (3, N))) (hq : τ q = none ∧ ¬ (1 ≤ q ∧ q ≤ 6)) (m d : Nat) (hd : (if nI m - nI N < (nI N >>> ((1 : Int32) &&& 31)) then (nI N >>> ((1 : Int32) &&& 31)) else nI m - nI N) = nI d) (hMd : M = N + d) (hd1 : 1 ≤ d) (hm : N ≤ m ∧ m < 1000000) (hN0 : 0 < N) (hM : 0 < M ∧ M < 1000000) (hel : kk_el τ r e C) (hCs : Cond.castable C "java/lang/Object" ∈ jj_tw) (hth : τ th = some (.inl 33)) (hre : r th 1 = some e) : kk_M G yJ2_grow_2 (ws_ yJ2_grow_2 cJ2_grow_2 4 (some (.array (.object "java/lang/Object")))) { frames := 3, cells := 1, slots := M, locals := 77 } [jR (some th), jI (nI m)] true τ I L r (jj_eq (some (jR (some q))) (jj_t τ q (.inr (3, M))) (jj_z I q 0) (jj_z L q 0) (jj_u (jj_cp (jj_z r q none) e q 0 0 N) th 1 (some q))) jj_no := by
  refine kk_intro "java/util/ArrayList" (by decide) rfl (Nat.le_of_ble_eq_true rfl) ?_
  intro X hG hX hr hN hC hF hAd
  refine kk_aload_n (pc := 0) hX dJ2_grow_2_0 rfl ?_
  refine kk_getR (pc := 1) hX (x := some e) fl_J2_9_33 dJ2_grow_2_1 hth rfl hre ?_
  refine kk_alen (pc := 4) hX dJ2_grow_2_4 he ?_
  refine kk_istore_n (pc := 5) hX dJ2_grow_2_5 (by decide) ?_
  refine kk_iload_n (pc := 6) hX dJ2_grow_2_6 rfl ?_
  refine kk_if_gt (pc := 7) hX 20 dJ2_grow_2_7 rfl (fun _ => ?_) (fun q => absurd (nI_lt (a := 0) hN0 (by omega)) q)
  refine kk_iload_n (pc := 20) hX dJ2_grow_2_20 rfl ?_
  refine kk_iload_n (pc := 21) hX dJ2_grow_2_21 rfl ?_
  refine kk_iload_n (pc := 22) hX dJ2_grow_2_22 rfl ?_
  refine kk_isub (pc := 23) hX dJ2_grow_2_23 ?_
  refine kk_iload_n (pc := 24) hX dJ2_grow_2_24 rfl ?_
  refine kk_iconst (pc := 25) hX (v := 1) dJ2_grow_2_25 (by decide) ?_
  refine kk_ishr (pc := 26) hX dJ2_grow_2_26 ?_
  refine kk_callS (pc := 27) hX (v_newLength X.1 _ _ _ _ N d _ _ hd (by omega) (by omega)) dJ2_grow_2_27 (lw_S q523 q524 q80 q525) ⟨by decide +kernel, by decide +kernel, by show _ = some (3 : Nat); decide +kernel⟩ ⟨Nat.le_of_ble_eq_true rfl, Nat.le_of_ble_eq_true rfl, Nat.le_of_ble_eq_true rfl, Nat.le_of_ble_eq_true rfl, Nat.le_of_ble_eq_true rfl⟩ (fun q => by cases q) rfl (jj_keq ?_) jj_kno
  rw [← hMd]
  refine kk_istore_n (pc := 30) hX dJ2_grow_2_30 (by decide) ?_
  refine kk_aload_n (pc := 31) hX dJ2_grow_2_31 rfl ?_
  refine kk_aload_n (pc := 32) hX dJ2_grow_2_32 rfl ?_
  refine kk_getR (pc := 33) hX (x := some e) fl_J2_9_33 dJ2_grow_2_33 hth rfl hre ?_
  refine kk_iload_n (pc := 36) hX dJ2_grow_2_36 rfl ?_
  refine kk_callS (pc := 37) hX (v_copyOf X.1 _ _ _ _ e q N M C he hq (by omega) hM hel hCs) dJ2_grow_2_37 (lw_S q533 q534 q82 q535) ⟨by decide +kernel, by decide +kernel, by show _ = some (2 : Nat); decide +kernel⟩ ⟨Nat.le_of_ble_eq_true rfl, Nat.le_of_ble_eq_true rfl, Nat.le_refl _, by show 0 + M ≤ M; omega, Nat.le_of_ble_eq_true rfl⟩ (fun _ => hF rfl) rfl (jj_keq ?_) jj_kno
  refine kk_dup_x1 (pc := 40) hX dJ2_grow_2_40 rfl rfl ?_
  refine kk_putR (pc := 41) hX fl_J2_9_33 dJ2_grow_2_41 (Eq.trans (jj_tn (kk_nf hth hq.1)) hth) rfl ?_
  exact kk_aret (pc := 44) hX dJ2_grow_2_44 hr ⟨Nat.le_refl _, by show 0 + M ≤ M; omega⟩ (Or.inr ⟨_, rfl⟩) (⟨rfl, rfl, rfl, rfl, rfl⟩)

theorem v_grow2e (G : jj_G) (τ : jj_T) (I : jj_I) (L : jj_L) (r : jj_R) (th q : Nat) (h0 : τ 0 = some (.inr (3, 0))) (hq : τ q = none ∧ ¬ (1 ≤ q ∧ q ≤ 6)) (hth : τ th = some (.inl 33)) (hre : r th 1 = some 0) (m : Nat) (hm : m ≤ 10) : kk_M G yJ2_grow_2 (ws_ yJ2_grow_2 cJ2_grow_2 4 (some (.array (.object "java/lang/Object")))) { frames := 3, cells := 1, slots := 10, locals := 77 } [jR (some th), jI (nI m)] true τ I L r (jj_eq (some (jR (some q))) (jj_t τ q (.inr (3, 10))) (jj_z I q 0) (jj_z L q 0) (jj_u (jj_z r q none) th 1 (some q))) jj_no := by
  refine kk_intro "java/util/ArrayList" (by decide) rfl (Nat.le_of_ble_eq_true rfl) ?_
  intro X hG hX hr hN hC hF hAd
  refine kk_aload_n (pc := 0) hX dJ2_grow_2_0 rfl ?_
  refine kk_getR (pc := 1) hX (x := some 0) fl_J2_9_33 dJ2_grow_2_1 hth rfl hre ?_
  refine kk_alen (pc := 4) hX dJ2_grow_2_4 h0 ?_
  refine kk_istore_n (pc := 5) hX dJ2_grow_2_5 (by decide) ?_
  refine kk_iload_n (pc := 6) hX dJ2_grow_2_6 rfl ?_
  refine kk_if_gt (pc := 7) hX 20 dJ2_grow_2_7 rfl (fun q => absurd q (by decide)) (fun _ => ?_)
  refine kk_aload_n (pc := 10) hX dJ2_grow_2_10 rfl ?_
  refine kk_getR (pc := 11) hX (x := some 0) fl_J2_9_33 dJ2_grow_2_11 hth rfl hre ?_
  refine kk_gets0 (pc := 14) hX dJ2_grow_2_14 q120 ?_
  refine kk_acmp_eq (pc := 17) hX 45 ⟨by simp, by simp⟩ ⟨by simp, by simp⟩ dJ2_grow_2_17 rfl (fun _ => ?_) (fun q => absurd rfl q)
  refine kk_aload_n (pc := 45) hX dJ2_grow_2_45 rfl ?_
  refine kk_bipush (pc := 46) hX (v := 10) dJ2_grow_2_46 (by decide) ?_
  refine kk_iload_n (pc := 48) hX dJ2_grow_2_48 rfl ?_
  refine kk_callS (pc := 49) hX (v_maxI X.1 _ _ _ _ 10 (nI m)) dJ2_grow_2_49 (lw_S q586 q527 q81 q528) ⟨by decide +kernel, by decide +kernel, by show _ = some (2 : Nat); decide +kernel⟩ ⟨Nat.le_of_ble_eq_true rfl, Nat.le_of_ble_eq_true rfl, Nat.le_of_ble_eq_true rfl, Nat.le_of_ble_eq_true rfl, Nat.le_of_ble_eq_true rfl⟩ (fun q => by cases q) rfl (jj_keq ?_) jj_kno
  refine kk_top 10 (if_neg (fun z => absurd (Int32.not_le.mpr z) (fun w => w (nI_le (b := 10) hm (by decide))))) ?_
  refine kk_newq (pc := 52) hX 3 10 q ⟨hq.1, hq.2⟩ (hF rfl) dJ2_grow_2_52 rfl (by decide) q587 (jj_inT q578 rfl) rfl (by decide) ⟨Nat.le_of_ble_eq_true rfl, Nat.le_of_ble_eq_true rfl⟩ ?_
  refine kk_dup_x1 (pc := 55) hX dJ2_grow_2_55 rfl rfl ?_
  refine kk_putR (pc := 56) hX fl_J2_9_33 dJ2_grow_2_56 (Eq.trans (jj_tn (kk_nf hth hq.1)) hth) rfl ?_
  exact kk_aret (pc := 59) hX dJ2_grow_2_59 hr ⟨Nat.le_refl _, Nat.le_refl _⟩ (Or.inr ⟨_, rfl⟩) (⟨rfl, rfl, rfl, rfl, rfl⟩)

theorem v_grow (G : jj_G) (τ : jj_T) (I : jj_I) (L : jj_L) (r : jj_R) (th e q N M : Nat) (C : String) (he : τ e = some (.inr (3, N))) (hq : τ q = none ∧ ¬ (1 ≤ q ∧ q ≤ 6)) (n d : Nat) (hd : (if nI (n + 1) - nI N < (nI N >>> ((1 : Int32) &&& 31)) then (nI N >>> ((1 : Int32) &&& 31)) else nI (n + 1) - nI N) = nI d) (hMd : M = N + d) (hd1 : 1 ≤ d) (hm : N ≤ n + 1 ∧ n + 1 < 1000000) (hN0 : 0 < N) (hM : 0 < M ∧ M < 1000000) (hel : kk_el τ r e C) (hCs : Cond.castable C "java/lang/Object" ∈ jj_tw) (hth : τ th = some (.inl 33)) (hre : r th 1 = some e) (hn : I th 2 = nI n) : kk_M G yJ2_grow (ws_ yJ2_grow cJ2_grow 1 (some (.array (.object "java/lang/Object")))) { frames := 4, cells := 1, slots := M, locals := 100 } [jR (some th)] true τ I L r (jj_eq (some (jR (some q))) (jj_t τ q (.inr (3, M))) (jj_z I q 0) (jj_z L q 0) (jj_u (jj_cp (jj_z r q none) e q 0 0 N) th 1 (some q))) jj_no := by
  refine kk_intro "java/util/ArrayList" (by decide) rfl (Nat.le_of_ble_eq_true rfl) ?_
  intro X hG hX hr hN hC hF hAd
  refine kk_aload_n (pc := 0) hX dJ2_grow_0 rfl ?_
  refine kk_aload_n (pc := 1) hX dJ2_grow_1 rfl ?_
  refine kk_getI (pc := 2) hX fl_J2_48_33 dJ2_grow_2 hth rfl ?_
  refine kk_top (nI n) hn ?_
  refine kk_iconst (pc := 5) hX (v := 1) dJ2_grow_5 (by decide) ?_
  refine kk_iadd (pc := 6) hX dJ2_grow_6 ?_
  refine kk_top (nI (n + 1)) (nI_add n 1) ?_
  refine kk_callV (pc := 7) hX (v_grow2 X.1 _ _ _ _ th e q N M C he hq (n + 1) d hd hMd hd1 hm hN0 hM hel hCs hth hre) dJ2_grow_7 (lw_V q519 q521 qs6 q53 q522) rfl ⟨by decide +kernel, by decide +kernel, by show _ = some (1 : Nat); decide +kernel⟩ ⟨Nat.le_of_ble_eq_true rfl, Nat.le_of_ble_eq_true rfl, Nat.le_refl _, by show 0 + M ≤ M; omega, Nat.le_of_ble_eq_true rfl⟩ (fun _ => hF rfl) hth jc_33 rfl (jj_keq ?_) jj_kno
  exact kk_aret (pc := 10) hX dJ2_grow_10 hr ⟨Nat.le_refl _, by show 0 + M ≤ M; omega⟩ (Or.inr ⟨_, rfl⟩) (⟨rfl, rfl, rfl, rfl, rfl⟩)

theorem v_growe (G : jj_G) (τ : jj_T) (I : jj_I) (L : jj_L) (r : jj_R) (th q : Nat) (h0 : τ 0 = some (.inr (3, 0))) (hq : τ q = none ∧ ¬ (1 ≤ q ∧ q ≤ 6)) (hth : τ th = some (.inl 33)) (hre : r th 1 = some 0) (hn : I th 2 = 0) : kk_M G yJ2_grow (ws_ yJ2_grow cJ2_grow 1 (some (.array (.object "java/lang/Object")))) { frames := 4, cells := 1, slots := 10, locals := 100 } [jR (some th)] true τ I L r (jj_eq (some (jR (some q))) (jj_t τ q (.inr (3, 10))) (jj_z I q 0) (jj_z L q 0) (jj_u (jj_z r q none) th 1 (some q))) jj_no := by
  refine kk_intro "java/util/ArrayList" (by decide) rfl (Nat.le_of_ble_eq_true rfl) ?_
  intro X hG hX hr hN hC hF hAd
  refine kk_aload_n (pc := 0) hX dJ2_grow_0 rfl ?_
  refine kk_aload_n (pc := 1) hX dJ2_grow_1 rfl ?_
  refine kk_getI (pc := 2) hX fl_J2_48_33 dJ2_grow_2 hth rfl ?_
  refine kk_top (nI 0) hn ?_
  refine kk_iconst (pc := 5) hX (v := 1) dJ2_grow_5 (by decide) ?_
  refine kk_iadd (pc := 6) hX dJ2_grow_6 ?_
  refine kk_callV (pc := 7) hX (v_grow2e X.1 _ _ _ _ th q h0 hq hth hre 1 (by decide)) dJ2_grow_7 (lw_V q519 q521 qs6 q53 q522) rfl ⟨by decide +kernel, by decide +kernel, by show _ = some (1 : Nat); decide +kernel⟩ ⟨Nat.le_of_ble_eq_true rfl, Nat.le_of_ble_eq_true rfl, Nat.le_of_ble_eq_true rfl, Nat.le_of_ble_eq_true rfl, Nat.le_of_ble_eq_true rfl⟩ (fun _ => hF rfl) hth jc_33 rfl (jj_keq ?_) jj_kno
  exact kk_aret (pc := 10) hX dJ2_grow_10 hr ⟨Nat.le_refl _, Nat.le_refl _⟩ (Or.inr ⟨_, rfl⟩) (⟨rfl, rfl, rfl, rfl, rfl⟩)

theorem v_add3 (G : jj_G) (τ : jj_T) (I : jj_I) (L : jj_L) (r : jj_R) (th e N n : Nat) (x : Nat) {cx : Nat} {Tx : u_T} {Nx : Nat} {C : String} (hx : τ x = some (.inl cx)) (hcx : jj_cl[cx]? = some (C, Tx, Nx)) (hCs : Cond.castable C "java/lang/Object" ∈ jj_tw) (hth : τ th = some (.inl 33)) (he : τ e = some (.inr (3, N))) (hnN : n < N) (hN9 : N < 1000000) : kk_M G yJ2_add_2 (ws_ yJ2_add_2 cJ2_add_2 4 none) { frames := 5, cells := 0, slots := 0, locals := 120 } [jR (some th), jR (some x), jR (some e), jI (nI n)] false τ I L r (jj_eq none τ (jj_u I th 2 (nI n + 1)) L (jj_u r e n (some x))) jj_no := by
  refine kk_intro "java/util/ArrayList" (by decide) rfl (Nat.le_of_ble_eq_true rfl) ?_
  intro X hG hX hr hN hC hF hAd
  refine kk_iload_n (pc := 0) hX dJ2_add_2_0 rfl ?_
  refine kk_aload_n (pc := 1) hX dJ2_add_2_1 rfl ?_
  refine kk_alen (pc := 2) hX dJ2_add_2_2 he ?_
  refine kk_icmp_ne (pc := 3) hX 11 dJ2_add_2_3 rfl (fun _ => ?_) (fun q => absurd q (fun z => absurd ((nI_eq (by omega) (by omega)).mp z) (by omega)))
  refine kk_aload_n (pc := 11) hX dJ2_add_2_11 rfl ?_
  refine kk_iload_n (pc := 12) hX dJ2_add_2_12 rfl ?_
  refine kk_aload_n (pc := 13) hX dJ2_add_2_13 rfl ?_
  refine kk_aast (pc := 14) hX n dJ2_add_2_14 he (by decide) rfl rfl ⟨by omega, by omega⟩ hx hcx hCs ?_
  refine kk_aload_n (pc := 15) hX dJ2_add_2_15 rfl ?_
  refine kk_iload_n (pc := 16) hX dJ2_add_2_16 rfl ?_
  refine kk_iconst (pc := 17) hX (v := 1) dJ2_add_2_17 (by decide) ?_
  refine kk_iadd (pc := 18) hX dJ2_add_2_18 ?_
  refine kk_putI (pc := 19) hX fl_J2_48_33 dJ2_add_2_19 hth rfl rfl ?_
  exact kk_vret (pc := 22) hX dJ2_add_2_22 hr ⟨Nat.le_refl _, Nat.le_refl _⟩ (⟨rfl, rfl, rfl, rfl, rfl⟩)

theorem v_add3g (G : jj_G) (τ : jj_T) (I : jj_I) (L : jj_L) (r : jj_R) (th e q N M : Nat) (x : Nat) {cx : Nat} {Tx : u_T} {Nx : Nat} {C : String} (hx : τ x = some (.inl cx)) (hcx : jj_cl[cx]? = some (C, Tx, Nx)) (hCs : Cond.castable C "java/lang/Object" ∈ jj_tw) (he : τ e = some (.inr (3, N))) (hq : τ q = none ∧ ¬ (1 ≤ q ∧ q ≤ 6)) (n d : Nat) (hd : (if nI (n + 1) - nI N < (nI N >>> ((1 : Int32) &&& 31)) then (nI N >>> ((1 : Int32) &&& 31)) else nI (n + 1) - nI N) = nI d) (hMd : M = N + d) (hd1 : 1 ≤ d) (hm : N ≤ n + 1 ∧ n + 1 < 1000000) (hnN : n = N) (hN0 : 0 < N) (hM : 0 < M ∧ M < 1000000) (hel : kk_el τ r e C) (hth : τ th = some (.inl 33)) (hre : r th 1 = some e) (hn : I th 2 = nI n) : kk_M G yJ2_add_2 (ws_ yJ2_add_2 cJ2_add_2 4 none) { frames := 5, cells := 1, slots := M, locals := 120 } [jR (some th), jR (some x), jR (some e), jI (nI n)] true τ I L r (jj_eq none (jj_t τ q (.inr (3, M))) (jj_u (jj_z I q 0) th 2 (nI n + 1)) (jj_z L q 0) (jj_u (jj_u (jj_cp (jj_z r q none) e q 0 0 N) th 1 (some q)) q n (some x))) jj_no := by
  refine kk_intro "java/util/ArrayList" (by decide) rfl (Nat.le_of_ble_eq_true rfl) ?_
  intro X hG hX hr hN hC hF hAd
  refine kk_iload_n (pc := 0) hX dJ2_add_2_0 rfl ?_
  refine kk_aload_n (pc := 1) hX dJ2_add_2_1 rfl ?_
  refine kk_alen (pc := 2) hX dJ2_add_2_2 he ?_
  refine kk_icmp_ne (pc := 3) hX 11 dJ2_add_2_3 rfl (fun q => absurd (by rw [hnN]) q) (fun _ => ?_)
  refine kk_aload_n (pc := 6) hX dJ2_add_2_6 rfl ?_
  refine kk_callV (pc := 7) hX (v_grow X.1 _ _ _ _ th e q N M C he hq n d hd hMd hd1 hm hN0 hM hel hCs hth hre hn) dJ2_add_2_7 (lw_V q515 q517 qs5 q53 q518) rfl ⟨by decide +kernel, by decide +kernel, by show _ = some (0 : Nat); decide +kernel⟩ ⟨Nat.le_of_ble_eq_true rfl, Nat.le_of_ble_eq_true rfl, Nat.le_refl _, by show 0 + M ≤ M; omega, Nat.le_of_ble_eq_true rfl⟩ (fun _ => hF rfl) hth jc_33 rfl (jj_keq ?_) jj_kno
  refine kk_astore_n (pc := 10) hX dJ2_add_2_10 (by decide) ?_
  refine kk_aload_n (pc := 11) hX dJ2_add_2_11 rfl ?_
  refine kk_iload_n (pc := 12) hX dJ2_add_2_12 rfl ?_
  refine kk_aload_n (pc := 13) hX dJ2_add_2_13 rfl ?_
  refine kk_aast (pc := 14) hX n dJ2_add_2_14 jj_ts (by decide) rfl rfl ⟨by omega, by omega⟩ ((jj_tn (kk_nf hx hq.1)).trans hx) hcx hCs ?_
  refine kk_aload_n (pc := 15) hX dJ2_add_2_15 rfl ?_
  refine kk_iload_n (pc := 16) hX dJ2_add_2_16 rfl ?_
  refine kk_iconst (pc := 17) hX (v := 1) dJ2_add_2_17 (by decide) ?_
  refine kk_iadd (pc := 18) hX dJ2_add_2_18 ?_
  refine kk_putI (pc := 19) hX fl_J2_48_33 dJ2_add_2_19 (Eq.trans (jj_tn (kk_nf hth hq.1)) hth) rfl rfl ?_
  exact kk_vret (pc := 22) hX dJ2_add_2_22 hr ⟨Nat.le_refl _, by show 0 + M ≤ M; omega⟩ (⟨rfl, rfl, rfl, rfl, rfl⟩)

theorem v_add3e (G : jj_G) (τ : jj_T) (I : jj_I) (L : jj_L) (r : jj_R) (th q : Nat) (h0 : τ 0 = some (.inr (3, 0))) (hq : τ q = none ∧ ¬ (1 ≤ q ∧ q ≤ 6)) (hth : τ th = some (.inl 33)) (hre : r th 1 = some 0) (x : Nat) {cx : Nat} {Tx : u_T} {Nx : Nat} {C : String} (hx : τ x = some (.inl cx)) (hcx : jj_cl[cx]? = some (C, Tx, Nx)) (hCs : Cond.castable C "java/lang/Object" ∈ jj_tw) (hn : I th 2 = 0) : kk_M G yJ2_add_2 (ws_ yJ2_add_2 cJ2_add_2 4 none) { frames := 5, cells := 1, slots := 10, locals := 120 } [jR (some th), jR (some x), jR (some 0), jI 0] true τ I L r (jj_eq none (jj_t τ q (.inr (3, 10))) (jj_u (jj_z I q 0) th 2 (0 + 1)) (jj_z L q 0) (jj_u (jj_u (jj_z r q none) th 1 (some q)) q 0 (some x))) jj_no := by
  refine kk_intro "java/util/ArrayList" (by decide) rfl (Nat.le_of_ble_eq_true rfl) ?_
  intro X hG hX hr hN hC hF hAd
  refine kk_iload_n (pc := 0) hX dJ2_add_2_0 rfl ?_
  refine kk_aload_n (pc := 1) hX dJ2_add_2_1 rfl ?_
  refine kk_alen (pc := 2) hX dJ2_add_2_2 h0 ?_
  refine kk_icmp_ne (pc := 3) hX 11 dJ2_add_2_3 rfl (fun q => absurd rfl q) (fun _ => ?_)
  refine kk_aload_n (pc := 6) hX dJ2_add_2_6 rfl ?_
  refine kk_callV (pc := 7) hX (v_growe X.1 _ _ _ _ th q h0 hq hth hre hn) dJ2_add_2_7 (lw_V q515 q517 qs5 q53 q518) rfl ⟨by decide +kernel, by decide +kernel, by show _ = some (0 : Nat); decide +kernel⟩ ⟨Nat.le_of_ble_eq_true rfl, Nat.le_of_ble_eq_true rfl, Nat.le_of_ble_eq_true rfl, Nat.le_of_ble_eq_true rfl, Nat.le_of_ble_eq_true rfl⟩ (fun _ => hF rfl) hth jc_33 rfl (jj_keq ?_) jj_kno
  refine kk_astore_n (pc := 10) hX dJ2_add_2_10 (by decide) ?_
  refine kk_aload_n (pc := 11) hX dJ2_add_2_11 rfl ?_
  refine kk_iload_n (pc := 12) hX dJ2_add_2_12 rfl ?_
  refine kk_aload_n (pc := 13) hX dJ2_add_2_13 rfl ?_
  refine kk_aast (pc := 14) hX 0 dJ2_add_2_14 jj_ts (by decide) rfl rfl ⟨by omega, by omega⟩ ((jj_tn (kk_nf hx hq.1)).trans hx) hcx hCs ?_
  refine kk_aload_n (pc := 15) hX dJ2_add_2_15 rfl ?_
  refine kk_iload_n (pc := 16) hX dJ2_add_2_16 rfl ?_
  refine kk_iconst (pc := 17) hX (v := 1) dJ2_add_2_17 (by decide) ?_
  refine kk_iadd (pc := 18) hX dJ2_add_2_18 ?_
  refine kk_putI (pc := 19) hX fl_J2_48_33 dJ2_add_2_19 (Eq.trans (jj_tn (kk_nf hth hq.1)) hth) rfl rfl ?_
  exact kk_vret (pc := 22) hX dJ2_add_2_22 hr ⟨Nat.le_refl _, Nat.le_refl _⟩ (⟨rfl, rfl, rfl, rfl, rfl⟩)
