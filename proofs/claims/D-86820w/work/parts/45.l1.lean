set_option maxRecDepth 100000
theorem v_Vput30 (G : jj_G) (τ : jj_T) (I : jj_I) (L : jj_L) (r : jj_R) (th a b N : Nat) (hth : τ th = some (.inl 30)) (hra : r th 0 = some a) (hrb : r th 1 = some b) (hka : τ a = some (.inr (2, N))) (hkb : τ b = some (.inr (4, N))) (hN : N < 1000) (k : Nat) (v : Int64) (x : Option Nat) (hk : k < N) (hx : ∀ w, x = some w → τ w = some (.inl 29)) : kk_M G yX30_put (ws_ yX30_put cX30_put 5 none) { frames := 0, cells := 0, slots := 0, locals := 0 } [jR (some th), jI (nI k), jL v, jR x] false τ I L r (jj_eq none τ I (jj_u L a k v) (jj_u r b k x)) jj_no := by
  refine kk_intro "BranchCells$Values" (by decide) rfl (Nat.le_of_ble_eq_true rfl) ?_
  intro X hG hX hr hN hC hF hAd
  refine kk_aload_n (pc := 0) hX dX30_put_0 rfl ?_
  refine kk_getR (pc := 1) hX (x := some a) fl_X30_9_30 dX30_put_1 hth rfl hra ?_
  refine kk_iload_n (pc := 4) hX dX30_put_4 rfl ?_
  refine kk_lload_n (pc := 5) hX dX30_put_5 rfl ?_
  refine kk_last (pc := 6) hX k dX30_put_6 hka rfl ⟨by omega, by omega⟩ ?_
  refine kk_aload_n (pc := 7) hX dX30_put_7 rfl ?_
  refine kk_getR (pc := 8) hX (x := some b) fl_X30_17_30 dX30_put_8 hth rfl hrb ?_
  refine kk_iload_n (pc := 11) hX dX30_put_11 rfl ?_
  refine kk_aload (pc := 12) hX dX30_put_12 rfl ?_
  refine kk_aastO (pc := 14) hX k dX30_put_14 hkb (by decide) rfl rfl ⟨by omega, by omega⟩ hx jc_29 ?_
  exact kk_vret (pc := 15) hX dX30_put_15 hr ⟨Nat.le_refl _, Nat.le_refl _⟩ (⟨rfl, rfl, rfl, rfl, rfl⟩)

theorem v_Vnum30 (G : jj_G) (τ : jj_T) (I : jj_I) (L : jj_L) (r : jj_R) (th a b N : Nat) (hth : τ th = some (.inl 30)) (hra : r th 0 = some a) (hrb : r th 1 = some b) (hka : τ a = some (.inr (2, N))) (hkb : τ b = some (.inr (4, N))) (hN : N < 1000) (k : Nat) (hk : k < N) (hx : r b k = none) : kk_M G yX30_number (ws_ yX30_number cX30_number 2 (some .long)) { frames := 4, cells := 0, slots := 0, locals := 89 } [jR (some th), jI (nI k)] false τ I L r (jj_eq (some (jL (L a k))) τ I L r) jj_no := by
  refine kk_intro "BranchCells$Values" (by decide) rfl (Nat.le_of_ble_eq_true rfl) ?_
  intro X hG hX hr hN hC hF hAd
  refine kk_aload_n (pc := 0) hX dX30_number_0 rfl ?_
  refine kk_getR (pc := 1) hX (x := some b) fl_X30_17_30 dX30_number_1 hth rfl hrb ?_
  refine kk_iload_n (pc := 4) hX dX30_number_4 rfl ?_
  refine kk_aald (pc := 5) hX (x := none) k dX30_number_5 hkb (by decide) rfl ⟨by omega, by omega⟩ hx ?_
  refine kk_ifnull (pc := 6) hX 18 dX30_number_6 rfl (fun _ => ?_) (fun _ q => by cases q)
  refine kk_aload_n (pc := 18) hX dX30_number_18 rfl ?_
  refine kk_getR (pc := 19) hX (x := some a) fl_X30_9_30 dX30_number_19 hth rfl hra ?_
  refine kk_iload_n (pc := 22) hX dX30_number_22 rfl ?_
  refine kk_lald (pc := 23) hX k dX30_number_23 hka rfl rfl ⟨by omega, by omega⟩ ?_
  exact kk_lret (pc := 24) hX dX30_number_24 hr ⟨Nat.le_refl _, Nat.le_refl _⟩ (⟨rfl, rfl, rfl, rfl, rfl⟩)

theorem v_VnumX30 (G : jj_G) (τ : jj_T) (I : jj_I) (L : jj_L) (r : jj_R) (th a b N : Nat) (hth : τ th = some (.inl 30)) (hra : r th 0 = some a) (hrb : r th 1 = some b) (hka : τ a = some (.inr (2, N))) (hkb : τ b = some (.inr (4, N))) (hN : N < 1000) (k w : Nat) (hk : k < N) (hx : r b k = some w) (q : Nat) (hq : τ q = none ∧ ¬ (1 ≤ q ∧ q ≤ 6)) : kk_M G yX30_number (ws_ yX30_number cX30_number 2 (some .long)) { frames := 4, cells := 1, slots := 7, locals := 89 } [jR (some th), jI (nI k)] true τ I L r jj_noP (jj_th q (jj_t τ q (.inl 32)) (jj_u (jj_z I q 0) q 6 2) (jj_z L q 0) (jj_u (jj_u (jj_u (jj_u (jj_u (jj_u (jj_u (jj_z r q none) q 0 (some q)) q 1 (some 5)) q 2 (some 6)) q 1 none) q 3 none) q 0 none) q 2 none)) := by
  refine kk_intro "BranchCells$Values" (by decide) rfl (Nat.le_of_ble_eq_true rfl) ?_
  intro X hG hX hr hN hC hF hAd
  refine kk_aload_n (pc := 0) hX dX30_number_0 rfl ?_
  refine kk_getR (pc := 1) hX (x := some b) fl_X30_17_30 dX30_number_1 hth rfl hrb ?_
  refine kk_iload_n (pc := 4) hX dX30_number_4 rfl ?_
  refine kk_aald (pc := 5) hX (x := some w) k dX30_number_5 hkb (by decide) rfl ⟨by omega, by omega⟩ hx ?_
  refine kk_ifnull (pc := 6) hX 18 dX30_number_6 rfl (fun q => by cases q) (fun _ _ => ?_)
  refine kk_new (pc := 9) hX q ⟨hq.1, hq.2⟩ (hF rfl) dX30_number_9 jc_32 q1084 q963 q95 (by decide) ⟨Nat.le_of_ble_eq_true rfl, Nat.le_of_ble_eq_true rfl⟩ ?_
  refine kk_dup (pc := 12) hX dX30_number_12 rfl ?_
  refine kk_iconst (pc := 13) hX (v := 2) dX30_number_13 (by decide) ?_
  refine kk_callI (pc := 14) hX (v_Fi X.1 _ _ _ _ q jj_ts 2) dX30_number_14 (lw_meth q1001) ⟨q1085, q1000, q95, rfl⟩ ⟨by decide +kernel, by decide +kernel, by show _ = some (1 : Nat); decide +kernel⟩ ⟨Nat.le_of_ble_eq_true rfl, Nat.le_of_ble_eq_true rfl, Nat.le_of_ble_eq_true rfl, Nat.le_of_ble_eq_true rfl, Nat.le_of_ble_eq_true rfl⟩ (fun q => by cases q) rfl (jj_keq ?_) jj_kno
  refine kk_athrow (pc := 17) hX dX30_number_17 jj_ts ?_
  exact kk_out (pc := 17) hX hN ⟨Nat.le_refl _, Nat.le_refl _⟩ (⟨rfl, rfl, rfl, rfl, rfl⟩)

theorem v_Vtask30 (G : jj_G) (τ : jj_T) (I : jj_I) (L : jj_L) (r : jj_R) (th a b N : Nat) (hth : τ th = some (.inl 30)) (hra : r th 0 = some a) (hrb : r th 1 = some b) (hka : τ a = some (.inr (2, N))) (hkb : τ b = some (.inr (4, N))) (hN : N < 1000) (k w : Nat) (hk : k < N) (hx : r b k = some w) : kk_M G yX30_task (ws_ yX30_task cX30_task 2 (some (.object "BranchCells$Task"))) { frames := 4, cells := 0, slots := 0, locals := 89 } [jR (some th), jI (nI k)] false τ I L r (jj_eq (some (jR (some w))) τ I L r) jj_no := by
  refine kk_intro "BranchCells$Values" (by decide) rfl (Nat.le_of_ble_eq_true rfl) ?_
  intro X hG hX hr hN hC hF hAd
  refine kk_aload_n (pc := 0) hX dX30_task_0 rfl ?_
  refine kk_getR (pc := 1) hX (x := some b) fl_X30_17_30 dX30_task_1 hth rfl hrb ?_
  refine kk_iload_n (pc := 4) hX dX30_task_4 rfl ?_
  refine kk_aald (pc := 5) hX (x := some w) k dX30_task_5 hkb (by decide) rfl ⟨by omega, by omega⟩ hx ?_
  refine kk_ifnonnull (pc := 6) hX 18 dX30_task_6 rfl (fun _ _ => ?_) (fun q => by cases q)
  refine kk_aload_n (pc := 18) hX dX30_task_18 rfl ?_
  refine kk_getR (pc := 19) hX (x := some b) fl_X30_17_30 dX30_task_19 hth rfl hrb ?_
  refine kk_iload_n (pc := 22) hX dX30_task_22 rfl ?_
  refine kk_aald (pc := 23) hX (x := some w) k dX30_task_23 hkb (by decide) rfl ⟨by omega, by omega⟩ hx ?_
  exact kk_aret (pc := 24) hX dX30_task_24 hr ⟨Nat.le_refl _, Nat.le_refl _⟩ (Or.inl ⟨_, rfl⟩) (⟨rfl, rfl, rfl, rfl, rfl⟩)

theorem v_VtaskX30 (G : jj_G) (τ : jj_T) (I : jj_I) (L : jj_L) (r : jj_R) (th a b N : Nat) (hth : τ th = some (.inl 30)) (hra : r th 0 = some a) (hrb : r th 1 = some b) (hka : τ a = some (.inr (2, N))) (hkb : τ b = some (.inr (4, N))) (hN : N < 1000) (k : Nat) (hk : k < N) (hx : r b k = none) (q : Nat) (hq : τ q = none ∧ ¬ (1 ≤ q ∧ q ≤ 6)) : kk_M G yX30_task (ws_ yX30_task cX30_task 2 (some (.object "BranchCells$Task"))) { frames := 4, cells := 1, slots := 7, locals := 89 } [jR (some th), jI (nI k)] true τ I L r jj_noP (jj_th q (jj_t τ q (.inl 32)) (jj_u (jj_z I q 0) q 6 2) (jj_z L q 0) (jj_u (jj_u (jj_u (jj_u (jj_u (jj_u (jj_u (jj_z r q none) q 0 (some q)) q 1 (some 5)) q 2 (some 6)) q 1 none) q 3 none) q 0 none) q 2 none)) := by
  refine kk_intro "BranchCells$Values" (by decide) rfl (Nat.le_of_ble_eq_true rfl) ?_
  intro X hG hX hr hN hC hF hAd
  refine kk_aload_n (pc := 0) hX dX30_task_0 rfl ?_
  refine kk_getR (pc := 1) hX (x := some b) fl_X30_17_30 dX30_task_1 hth rfl hrb ?_
  refine kk_iload_n (pc := 4) hX dX30_task_4 rfl ?_
  refine kk_aald (pc := 5) hX (x := none) k dX30_task_5 hkb (by decide) rfl ⟨by omega, by omega⟩ hx ?_
  refine kk_ifnonnull (pc := 6) hX 18 dX30_task_6 rfl (fun _ q => by cases q) (fun _ => ?_)
  refine kk_new (pc := 9) hX q ⟨hq.1, hq.2⟩ (hF rfl) dX30_task_9 jc_32 q1084 q963 q95 (by decide) ⟨Nat.le_of_ble_eq_true rfl, Nat.le_of_ble_eq_true rfl⟩ ?_
  refine kk_dup (pc := 12) hX dX30_task_12 rfl ?_
  refine kk_iconst (pc := 13) hX (v := 2) dX30_task_13 (by decide) ?_
  refine kk_callI (pc := 14) hX (v_Fi X.1 _ _ _ _ q jj_ts 2) dX30_task_14 (lw_meth q1001) ⟨q1085, q1000, q95, rfl⟩ ⟨by decide +kernel, by decide +kernel, by show _ = some (1 : Nat); decide +kernel⟩ ⟨Nat.le_of_ble_eq_true rfl, Nat.le_of_ble_eq_true rfl, Nat.le_of_ble_eq_true rfl, Nat.le_of_ble_eq_true rfl, Nat.le_of_ble_eq_true rfl⟩ (fun q => by cases q) rfl (jj_keq ?_) jj_kno
  refine kk_athrow (pc := 17) hX dX30_task_17 jj_ts ?_
  exact kk_out (pc := 17) hX hN ⟨Nat.le_refl _, Nat.le_refl _⟩ (⟨rfl, rfl, rfl, rfl, rfl⟩)

theorem v_Vinit30 (G : jj_G) (τ : jj_T) (I : jj_I) (L : jj_L) (r : jj_R) (th a b n : Nat) (hth : τ th = some (.inl 30)) (ha : τ a = none ∧ ¬ (1 ≤ a ∧ a ≤ 6)) (hb : τ b = none ∧ ¬ (1 ≤ b ∧ b ≤ 6)) (hab : a ≠ b) (hn : n < 1000) : kk_M G yX30_init (ws_ yX30_init cX30_init 2 none) { frames := 1, cells := 2, slots := n + n, locals := 20 } [jR (some th), jI (nI n)] true τ I L r (jj_eq none (jj_t (jj_t τ a (.inr (2, n))) b (.inr (4, n))) (jj_z (jj_z I a 0) b 0) (jj_z (jj_z L a 0) b 0) (jj_u (jj_z (jj_u (jj_z r a none) th 0 (some a)) b none) th 1 (some b))) jj_no := by
  refine kk_intro "BranchCells$Values" (by decide) rfl (Nat.le_of_ble_eq_true rfl) ?_
  intro X hG hX hr hN hC hF hAd
  refine kk_aload_n (pc := 0) hX dX30_init_0 rfl ?_
  refine kk_objInit (pc := 1) hX dX30_init_1 q779 q104 q105 ⟨Nat.le_of_ble_eq_true rfl, Nat.le_of_ble_eq_true rfl⟩ ?_
  refine kk_aload_n (pc := 4) hX dX30_init_4 rfl ?_
  refine kk_iload_n (pc := 5) hX dX30_init_5 rfl ?_
  refine kk_newa (pc := 6) hX 2 n a ⟨ha.1, ha.2⟩ (hF rfl) dX30_init_6 rfl (by decide) q647 rfl (by omega) ⟨Nat.le_of_ble_eq_true rfl, by show 0 + n ≤ n + n; omega⟩ ?_
  refine kk_putRF (pc := 8) hX (hC rfl) fl_X30_9_30 ⟨_, jc_30, rfl⟩ dX30_init_8 (Eq.trans (jj_tn (kk_nf hth ha.1)) hth) rfl ?_
  refine kk_aload_n (pc := 11) hX dX30_init_11 rfl ?_
  refine kk_iload_n (pc := 12) hX dX30_init_12 rfl ?_
  refine kk_newq (pc := 13) hX 4 n b ⟨((jj_tn (Ne.symm hab)).trans hb.1), hb.2⟩ (hF rfl) dX30_init_13 rfl (by decide) q780 (jj_inT q781 rfl) rfl (by omega) ⟨Nat.le_of_ble_eq_true rfl, by show 0 + n + n ≤ n + n; omega⟩ ?_
  refine kk_putRF (pc := 16) hX (hC rfl) fl_X30_17_30 ⟨_, jc_30, rfl⟩ dX30_init_16 (Eq.trans (jj_tn (kk_nf hth hb.1)) (Eq.trans (jj_tn (kk_nf hth ha.1)) hth)) rfl ?_
  exact kk_vret (pc := 19) hX dX30_init_19 hr ⟨Nat.le_refl _, by show 0 + n + n ≤ n + n; omega⟩ (⟨rfl, rfl, rfl, rfl, rfl⟩)

theorem v_Vput31 (G : jj_G) (τ : jj_T) (I : jj_I) (L : jj_L) (r : jj_R) (th a b N : Nat) (hth : τ th = some (.inl 31)) (hra : r th 0 = some a) (hrb : r th 1 = some b) (hka : τ a = some (.inr (2, N))) (hkb : τ b = some (.inr (4, N))) (hN : N < 1000) (k : Nat) (v : Int64) (x : Option Nat) (hk : k < N) (hx : ∀ w, x = some w → τ w = some (.inl 29)) : kk_M G yX30_put (ws_ yX30_put cX30_put 5 none) { frames := 0, cells := 0, slots := 0, locals := 0 } [jR (some th), jI (nI k), jL v, jR x] false τ I L r (jj_eq none τ I (jj_u L a k v) (jj_u r b k x)) jj_no := by
  refine kk_intro "BranchCells$Values" (by decide) rfl (Nat.le_of_ble_eq_true rfl) ?_
  intro X hG hX hr hN hC hF hAd
  refine kk_aload_n (pc := 0) hX dX30_put_0 rfl ?_
  refine kk_getR (pc := 1) hX (x := some a) fl_X30_9_31 dX30_put_1 hth rfl hra ?_
  refine kk_iload_n (pc := 4) hX dX30_put_4 rfl ?_
  refine kk_lload_n (pc := 5) hX dX30_put_5 rfl ?_
  refine kk_last (pc := 6) hX k dX30_put_6 hka rfl ⟨by omega, by omega⟩ ?_
  refine kk_aload_n (pc := 7) hX dX30_put_7 rfl ?_
  refine kk_getR (pc := 8) hX (x := some b) fl_X30_17_31 dX30_put_8 hth rfl hrb ?_
  refine kk_iload_n (pc := 11) hX dX30_put_11 rfl ?_
  refine kk_aload (pc := 12) hX dX30_put_12 rfl ?_
  refine kk_aastO (pc := 14) hX k dX30_put_14 hkb (by decide) rfl rfl ⟨by omega, by omega⟩ hx jc_29 ?_
  exact kk_vret (pc := 15) hX dX30_put_15 hr ⟨Nat.le_refl _, Nat.le_refl _⟩ (⟨rfl, rfl, rfl, rfl, rfl⟩)

theorem v_Vnum31 (G : jj_G) (τ : jj_T) (I : jj_I) (L : jj_L) (r : jj_R) (th a b N : Nat) (hth : τ th = some (.inl 31)) (hra : r th 0 = some a) (hrb : r th 1 = some b) (hka : τ a = some (.inr (2, N))) (hkb : τ b = some (.inr (4, N))) (hN : N < 1000) (k : Nat) (hk : k < N) (hx : r b k = none) : kk_M G yX30_number (ws_ yX30_number cX30_number 2 (some .long)) { frames := 4, cells := 0, slots := 0, locals := 89 } [jR (some th), jI (nI k)] false τ I L r (jj_eq (some (jL (L a k))) τ I L r) jj_no := by
  refine kk_intro "BranchCells$Values" (by decide) rfl (Nat.le_of_ble_eq_true rfl) ?_
  intro X hG hX hr hN hC hF hAd
  refine kk_aload_n (pc := 0) hX dX30_number_0 rfl ?_
  refine kk_getR (pc := 1) hX (x := some b) fl_X30_17_31 dX30_number_1 hth rfl hrb ?_
  refine kk_iload_n (pc := 4) hX dX30_number_4 rfl ?_
  refine kk_aald (pc := 5) hX (x := none) k dX30_number_5 hkb (by decide) rfl ⟨by omega, by omega⟩ hx ?_
  refine kk_ifnull (pc := 6) hX 18 dX30_number_6 rfl (fun _ => ?_) (fun _ q => by cases q)
  refine kk_aload_n (pc := 18) hX dX30_number_18 rfl ?_
  refine kk_getR (pc := 19) hX (x := some a) fl_X30_9_31 dX30_number_19 hth rfl hra ?_
  refine kk_iload_n (pc := 22) hX dX30_number_22 rfl ?_
  refine kk_lald (pc := 23) hX k dX30_number_23 hka rfl rfl ⟨by omega, by omega⟩ ?_
  exact kk_lret (pc := 24) hX dX30_number_24 hr ⟨Nat.le_refl _, Nat.le_refl _⟩ (⟨rfl, rfl, rfl, rfl, rfl⟩)

theorem v_VnumX31 (G : jj_G) (τ : jj_T) (I : jj_I) (L : jj_L) (r : jj_R) (th a b N : Nat) (hth : τ th = some (.inl 31)) (hra : r th 0 = some a) (hrb : r th 1 = some b) (hka : τ a = some (.inr (2, N))) (hkb : τ b = some (.inr (4, N))) (hN : N < 1000) (k w : Nat) (hk : k < N) (hx : r b k = some w) (q : Nat) (hq : τ q = none ∧ ¬ (1 ≤ q ∧ q ≤ 6)) : kk_M G yX30_number (ws_ yX30_number cX30_number 2 (some .long)) { frames := 4, cells := 1, slots := 7, locals := 89 } [jR (some th), jI (nI k)] true τ I L r jj_noP (jj_th q (jj_t τ q (.inl 32)) (jj_u (jj_z I q 0) q 6 2) (jj_z L q 0) (jj_u (jj_u (jj_u (jj_u (jj_u (jj_u (jj_u (jj_z r q none) q 0 (some q)) q 1 (some 5)) q 2 (some 6)) q 1 none) q 3 none) q 0 none) q 2 none)) := by
  refine kk_intro "BranchCells$Values" (by decide) rfl (Nat.le_of_ble_eq_true rfl) ?_
  intro X hG hX hr hN hC hF hAd
  refine kk_aload_n (pc := 0) hX dX30_number_0 rfl ?_
  refine kk_getR (pc := 1) hX (x := some b) fl_X30_17_31 dX30_number_1 hth rfl hrb ?_
  refine kk_iload_n (pc := 4) hX dX30_number_4 rfl ?_
  refine kk_aald (pc := 5) hX (x := some w) k dX30_number_5 hkb (by decide) rfl ⟨by omega, by omega⟩ hx ?_
  refine kk_ifnull (pc := 6) hX 18 dX30_number_6 rfl (fun q => by cases q) (fun _ _ => ?_)
  refine kk_new (pc := 9) hX q ⟨hq.1, hq.2⟩ (hF rfl) dX30_number_9 jc_32 q1084 q963 q95 (by decide) ⟨Nat.le_of_ble_eq_true rfl, Nat.le_of_ble_eq_true rfl⟩ ?_
  refine kk_dup (pc := 12) hX dX30_number_12 rfl ?_
  refine kk_iconst (pc := 13) hX (v := 2) dX30_number_13 (by decide) ?_
  refine kk_callI (pc := 14) hX (v_Fi X.1 _ _ _ _ q jj_ts 2) dX30_number_14 (lw_meth q1001) ⟨q1085, q1000, q95, rfl⟩ ⟨by decide +kernel, by decide +kernel, by show _ = some (1 : Nat); decide +kernel⟩ ⟨Nat.le_of_ble_eq_true rfl, Nat.le_of_ble_eq_true rfl, Nat.le_of_ble_eq_true rfl, Nat.le_of_ble_eq_true rfl, Nat.le_of_ble_eq_true rfl⟩ (fun q => by cases q) rfl (jj_keq ?_) jj_kno
  refine kk_athrow (pc := 17) hX dX30_number_17 jj_ts ?_
  exact kk_out (pc := 17) hX hN ⟨Nat.le_refl _, Nat.le_refl _⟩ (⟨rfl, rfl, rfl, rfl, rfl⟩)

theorem v_Vtask31 (G : jj_G) (τ : jj_T) (I : jj_I) (L : jj_L) (r : jj_R) (th a b N : Nat) (hth : τ th = some (.inl 31)) (hra : r th 0 = some a) (hrb : r th 1 = some b) (hka : τ a = some (.inr (2, N))) (hkb : τ b = some (.inr (4, N))) (hN : N < 1000) (k w : Nat) (hk : k < N) (hx : r b k = some w) : kk_M G yX30_task (ws_ yX30_task cX30_task 2 (some (.object "BranchCells$Task"))) { frames := 4, cells := 0, slots := 0, locals := 89 } [jR (some th), jI (nI k)] false τ I L r (jj_eq (some (jR (some w))) τ I L r) jj_no := by
  refine kk_intro "BranchCells$Values" (by decide) rfl (Nat.le_of_ble_eq_true rfl) ?_
  intro X hG hX hr hN hC hF hAd
  refine kk_aload_n (pc := 0) hX dX30_task_0 rfl ?_
  refine kk_getR (pc := 1) hX (x := some b) fl_X30_17_31 dX30_task_1 hth rfl hrb ?_
  refine kk_iload_n (pc := 4) hX dX30_task_4 rfl ?_
  refine kk_aald (pc := 5) hX (x := some w) k dX30_task_5 hkb (by decide) rfl ⟨by omega, by omega⟩ hx ?_
  refine kk_ifnonnull (pc := 6) hX 18 dX30_task_6 rfl (fun _ _ => ?_) (fun q => by cases q)
  refine kk_aload_n (pc := 18) hX dX30_task_18 rfl ?_
  refine kk_getR (pc := 19) hX (x := some b) fl_X30_17_31 dX30_task_19 hth rfl hrb ?_
  refine kk_iload_n (pc := 22) hX dX30_task_22 rfl ?_
  refine kk_aald (pc := 23) hX (x := some w) k dX30_task_23 hkb (by decide) rfl ⟨by omega, by omega⟩ hx ?_
  exact kk_aret (pc := 24) hX dX30_task_24 hr ⟨Nat.le_refl _, Nat.le_refl _⟩ (Or.inl ⟨_, rfl⟩) (⟨rfl, rfl, rfl, rfl, rfl⟩)

theorem v_VtaskX31 (G : jj_G) (τ : jj_T) (I : jj_I) (L : jj_L) (r : jj_R) (th a b N : Nat) (hth : τ th = some (.inl 31)) (hra : r th 0 = some a) (hrb : r th 1 = some b) (hka : τ a = some (.inr (2, N))) (hkb : τ b = some (.inr (4, N))) (hN : N < 1000) (k : Nat) (hk : k < N) (hx : r b k = none) (q : Nat) (hq : τ q = none ∧ ¬ (1 ≤ q ∧ q ≤ 6)) : kk_M G yX30_task (ws_ yX30_task cX30_task 2 (some (.object "BranchCells$Task"))) { frames := 4, cells := 1, slots := 7, locals := 89 } [jR (some th), jI (nI k)] true τ I L r jj_noP (jj_th q (jj_t τ q (.inl 32)) (jj_u (jj_z I q 0) q 6 2) (jj_z L q 0) (jj_u (jj_u (jj_u (jj_u (jj_u (jj_u (jj_u (jj_z r q none) q 0 (some q)) q 1 (some 5)) q 2 (some 6)) q 1 none) q 3 none) q 0 none) q 2 none)) := by
  refine kk_intro "BranchCells$Values" (by decide) rfl (Nat.le_of_ble_eq_true rfl) ?_
  intro X hG hX hr hN hC hF hAd
  refine kk_aload_n (pc := 0) hX dX30_task_0 rfl ?_
  refine kk_getR (pc := 1) hX (x := some b) fl_X30_17_31 dX30_task_1 hth rfl hrb ?_
  refine kk_iload_n (pc := 4) hX dX30_task_4 rfl ?_
  refine kk_aald (pc := 5) hX (x := none) k dX30_task_5 hkb (by decide) rfl ⟨by omega, by omega⟩ hx ?_
  refine kk_ifnonnull (pc := 6) hX 18 dX30_task_6 rfl (fun _ q => by cases q) (fun _ => ?_)
  refine kk_new (pc := 9) hX q ⟨hq.1, hq.2⟩ (hF rfl) dX30_task_9 jc_32 q1084 q963 q95 (by decide) ⟨Nat.le_of_ble_eq_true rfl, Nat.le_of_ble_eq_true rfl⟩ ?_
  refine kk_dup (pc := 12) hX dX30_task_12 rfl ?_
  refine kk_iconst (pc := 13) hX (v := 2) dX30_task_13 (by decide) ?_
  refine kk_callI (pc := 14) hX (v_Fi X.1 _ _ _ _ q jj_ts 2) dX30_task_14 (lw_meth q1001) ⟨q1085, q1000, q95, rfl⟩ ⟨by decide +kernel, by decide +kernel, by show _ = some (1 : Nat); decide +kernel⟩ ⟨Nat.le_of_ble_eq_true rfl, Nat.le_of_ble_eq_true rfl, Nat.le_of_ble_eq_true rfl, Nat.le_of_ble_eq_true rfl, Nat.le_of_ble_eq_true rfl⟩ (fun q => by cases q) rfl (jj_keq ?_) jj_kno
  refine kk_athrow (pc := 17) hX dX30_task_17 jj_ts ?_
  exact kk_out (pc := 17) hX hN ⟨Nat.le_refl _, Nat.le_refl _⟩ (⟨rfl, rfl, rfl, rfl, rfl⟩)

theorem v_Vinit31 (G : jj_G) (τ : jj_T) (I : jj_I) (L : jj_L) (r : jj_R) (th a b n : Nat) (hth : τ th = some (.inl 31)) (ha : τ a = none ∧ ¬ (1 ≤ a ∧ a ≤ 6)) (hb : τ b = none ∧ ¬ (1 ≤ b ∧ b ≤ 6)) (hab : a ≠ b) (hn : n < 1000) : kk_M G yX30_init (ws_ yX30_init cX30_init 2 none) { frames := 1, cells := 2, slots := n + n, locals := 20 } [jR (some th), jI (nI n)] true τ I L r (jj_eq none (jj_t (jj_t τ a (.inr (2, n))) b (.inr (4, n))) (jj_z (jj_z I a 0) b 0) (jj_z (jj_z L a 0) b 0) (jj_u (jj_z (jj_u (jj_z r a none) th 0 (some a)) b none) th 1 (some b))) jj_no := by
  refine kk_intro "BranchCells$Values" (by decide) rfl (Nat.le_of_ble_eq_true rfl) ?_
  intro X hG hX hr hN hC hF hAd
  refine kk_aload_n (pc := 0) hX dX30_init_0 rfl ?_
  refine kk_objInit (pc := 1) hX dX30_init_1 q779 q104 q105 ⟨Nat.le_of_ble_eq_true rfl, Nat.le_of_ble_eq_true rfl⟩ ?_
  refine kk_aload_n (pc := 4) hX dX30_init_4 rfl ?_
  refine kk_iload_n (pc := 5) hX dX30_init_5 rfl ?_
  refine kk_newa (pc := 6) hX 2 n a ⟨ha.1, ha.2⟩ (hF rfl) dX30_init_6 rfl (by decide) q647 rfl (by omega) ⟨Nat.le_of_ble_eq_true rfl, by show 0 + n ≤ n + n; omega⟩ ?_
  refine kk_putRF (pc := 8) hX (hC rfl) fl_X30_9_31 ⟨_, jc_31, rfl⟩ dX30_init_8 (Eq.trans (jj_tn (kk_nf hth ha.1)) hth) rfl ?_
  refine kk_aload_n (pc := 11) hX dX30_init_11 rfl ?_
  refine kk_iload_n (pc := 12) hX dX30_init_12 rfl ?_
  refine kk_newq (pc := 13) hX 4 n b ⟨((jj_tn (Ne.symm hab)).trans hb.1), hb.2⟩ (hF rfl) dX30_init_13 rfl (by decide) q780 (jj_inT q781 rfl) rfl (by omega) ⟨Nat.le_of_ble_eq_true rfl, by show 0 + n + n ≤ n + n; omega⟩ ?_
  refine kk_putRF (pc := 16) hX (hC rfl) fl_X30_17_31 ⟨_, jc_31, rfl⟩ dX30_init_16 (Eq.trans (jj_tn (kk_nf hth hb.1)) (Eq.trans (jj_tn (kk_nf hth ha.1)) hth)) rfl ?_
  exact kk_vret (pc := 19) hX dX30_init_19 hr ⟨Nat.le_refl _, by show 0 + n + n ≤ n + n; omega⟩ (⟨rfl, rfl, rfl, rfl, rfl⟩)

theorem v_take (G : jj_G) (τ : jj_T) (I : jj_I) (L : jj_L) (r : jj_R) (th n : Nat) (hth : τ th = some (.inl 31)) (hs : I th 2 = nI n) (hn : 1 ≤ n) (w : Int32) (hw : nI (n - 1) = w) : kk_M G yX31_take (ws_ yX31_take cX31_take 1 (some .int)) { frames := 0, cells := 0, slots := 0, locals := 0 } [jR (some th)] false τ I L r (jj_eq (some (jI (nI (n - 1)))) τ (jj_u I th 2 w) L r) jj_no := by
  refine kk_intro "BranchCells$Pile" (by decide) rfl (Nat.le_of_ble_eq_true rfl) ?_
  intro X hG hX hr hN hC hF hAd
  refine kk_aload_n (pc := 0) hX dX31_take_0 rfl ?_
  refine kk_dup (pc := 1) hX dX31_take_1 rfl ?_
  refine kk_getI (pc := 2) hX fl_X31_9_31 dX31_take_2 hth rfl ?_
  refine kk_top (nI n) hs ?_
  refine kk_iconst (pc := 5) hX (v := 1) dX31_take_5 (by decide) ?_
  refine kk_isub (pc := 6) hX dX31_take_6 ?_
  refine kk_top (nI (n - 1)) (ix_sub rfl rfl (by omega)) ?_
  refine kk_top w hw ?_
  refine kk_putI (pc := 7) hX fl_X31_9_31 dX31_take_7 hth rfl rfl ?_
  refine kk_aload_n (pc := 10) hX dX31_take_10 rfl ?_
  refine kk_getI (pc := 11) hX fl_X31_9_31 dX31_take_11 hth rfl ?_
  refine kk_top w jj_us ?_
  refine kk_top (nI (n - 1)) hw.symm ?_
  exact kk_iret (pc := 14) hX dX31_take_14 hr ⟨Nat.le_refl _, Nat.le_refl _⟩ (⟨rfl, rfl, rfl, rfl, rfl⟩)

theorem v_Pput (G : jj_G) (τ : jj_T) (I : jj_I) (L : jj_L) (r : jj_R) (th a b n : Nat) (hth : τ th = some (.inl 31)) (hra : r th 0 = some a) (hrb : r th 1 = some b) (hka : τ a = some (.inr (2, 12))) (hkb : τ b = some (.inr (4, 12))) (hs : I th 2 = nI n) (v : Int64) (x : Option Nat) (hn : n < 12) (hx : ∀ w, x = some w → τ w = some (.inl 29)) (w : Int32) (hw : nI (n + 1) = w) : kk_M G yX31_put (ws_ yX31_put cX31_put 4 none) { frames := 4, cells := 0, slots := 0, locals := 89 } [jR (some th), jL v, jR x] false τ I L r (jj_eq none τ (jj_u I th 2 w) (jj_u L a n v) (jj_u r b n x)) jj_no := by
  refine kk_intro "BranchCells$Pile" (by decide) rfl (Nat.le_of_ble_eq_true rfl) ?_
  intro X hG hX hr hN hC hF hAd
  refine kk_aload_n (pc := 0) hX dX31_put_0 rfl ?_
  refine kk_getI (pc := 1) hX fl_X31_9_31 dX31_put_1 hth rfl ?_
  refine kk_top (nI n) hs ?_
  refine kk_bipush (pc := 4) hX (v := 12) dX31_put_4 (by decide) ?_
  refine kk_icmp_ne (pc := 6) hX 19 dX31_put_6 rfl (fun _ => ?_) (fun q => absurd q (fun z => absurd ((nI_eq (b := 12) (by omega) (by decide)).mp z) (by omega)))
  refine kk_aload_n (pc := 19) hX dX31_put_19 rfl ?_
  refine kk_aload_n (pc := 20) hX dX31_put_20 rfl ?_
  refine kk_getI (pc := 21) hX fl_X31_9_31 dX31_put_21 hth rfl ?_
  refine kk_top (nI n) hs ?_
  refine kk_lload_n (pc := 24) hX dX31_put_24 rfl ?_
  refine kk_aload_n (pc := 25) hX dX31_put_25 rfl ?_
  refine kk_callU (pc := 26) hX (owner := "BranchCells$Values") (v_Vput31 X.1 _ _ _ _ th a b 12 hth hra hrb hka hkb (by decide) n v x hn hx) dX31_put_26 (lw_meth q916) ⟨q1067, q1068, q1070, q912, q91, jj_inT q1069 rfl⟩ ⟨by decide +kernel, by decide +kernel, by show _ = some (3 : Nat); decide +kernel⟩ ⟨Nat.le_of_ble_eq_true rfl, Nat.le_of_ble_eq_true rfl, Nat.le_of_ble_eq_true rfl, Nat.le_of_ble_eq_true rfl, Nat.le_of_ble_eq_true rfl⟩ (fun q => by cases q) hth jc_31 rfl (jj_keq ?_) jj_kno
  refine kk_aload_n (pc := 29) hX dX31_put_29 rfl ?_
  refine kk_dup (pc := 30) hX dX31_put_30 rfl ?_
  refine kk_getI (pc := 31) hX fl_X31_9_31 dX31_put_31 hth rfl ?_
  refine kk_top (nI n) hs ?_
  refine kk_iconst (pc := 34) hX (v := 1) dX31_put_34 (by decide) ?_
  refine kk_iadd (pc := 35) hX dX31_put_35 ?_
  refine kk_top (nI (n + 1)) (ix_add rfl rfl) ?_
  refine kk_top w hw ?_
  refine kk_putI (pc := 36) hX fl_X31_9_31 dX31_put_36 hth rfl rfl ?_
  exact kk_vret (pc := 39) hX dX31_put_39 hr ⟨Nat.le_refl _, Nat.le_refl _⟩ (⟨rfl, rfl, rfl, rfl, rfl⟩)

theorem v_PputX (G : jj_G) (τ : jj_T) (I : jj_I) (L : jj_L) (r : jj_R) (th a b n : Nat) (hth : τ th = some (.inl 31)) (hra : r th 0 = some a) (hrb : r th 1 = some b) (hka : τ a = some (.inr (2, 12))) (hkb : τ b = some (.inr (4, 12))) (hs : I th 2 = nI n) (v : Int64) (x : Option Nat) (hn : n = 12) (q : Nat) (hq : τ q = none ∧ ¬ (1 ≤ q ∧ q ≤ 6)) : kk_M G yX31_put (ws_ yX31_put cX31_put 4 none) { frames := 4, cells := 1, slots := 7, locals := 89 } [jR (some th), jL v, jR x] true τ I L r jj_noP (jj_th q (jj_t τ q (.inl 32)) (jj_u (jj_z I q 0) q 6 7) (jj_z L q 0) (jj_u (jj_u (jj_u (jj_u (jj_u (jj_u (jj_u (jj_z r q none) q 0 (some q)) q 1 (some 5)) q 2 (some 6)) q 1 none) q 3 none) q 0 none) q 2 none)) := by
  refine kk_intro "BranchCells$Pile" (by decide) rfl (Nat.le_of_ble_eq_true rfl) ?_
  intro X hG hX hr hN hC hF hAd
  refine kk_aload_n (pc := 0) hX dX31_put_0 rfl ?_
  refine kk_getI (pc := 1) hX fl_X31_9_31 dX31_put_1 hth rfl ?_
  refine kk_top (nI n) hs ?_
  refine kk_bipush (pc := 4) hX (v := 12) dX31_put_4 (by decide) ?_
  refine kk_icmp_ne (pc := 6) hX 19 dX31_put_6 rfl (fun q => absurd (by rw [hn]; rfl) q) (fun _ => ?_)
  refine kk_new (pc := 9) hX q ⟨hq.1, hq.2⟩ (hF rfl) dX31_put_9 jc_32 q1065 q963 q95 (by decide) ⟨Nat.le_of_ble_eq_true rfl, Nat.le_of_ble_eq_true rfl⟩ ?_
  refine kk_dup (pc := 12) hX dX31_put_12 rfl ?_
  refine kk_bipush (pc := 13) hX (v := 7) dX31_put_13 (by decide) ?_
  refine kk_callI (pc := 15) hX (v_Fi X.1 _ _ _ _ q jj_ts 7) dX31_put_15 (lw_meth q1001) ⟨q1066, q1000, q95, rfl⟩ ⟨by decide +kernel, by decide +kernel, by show _ = some (1 : Nat); decide +kernel⟩ ⟨Nat.le_of_ble_eq_true rfl, Nat.le_of_ble_eq_true rfl, Nat.le_of_ble_eq_true rfl, Nat.le_of_ble_eq_true rfl, Nat.le_of_ble_eq_true rfl⟩ (fun q => by cases q) rfl (jj_keq ?_) jj_kno
  refine kk_athrow (pc := 18) hX dX31_put_18 jj_ts ?_
  exact kk_out (pc := 18) hX hN ⟨Nat.le_refl _, Nat.le_refl _⟩ (⟨rfl, rfl, rfl, rfl, rfl⟩)

theorem v_top0 (G : jj_G) (τ : jj_T) (I : jj_I) (L : jj_L) (r : jj_R) (th : Nat) (hth : τ th = some (.inl 31)) (hs : I th 2 = 0) : kk_M G yX31_top (ws_ yX31_top cX31_top 1 (some (.object "BranchCells$Task"))) { frames := 0, cells := 0, slots := 0, locals := 0 } [jR (some th)] false τ I L r (jj_eq (some (jR none)) τ I L r) jj_no := by
  refine kk_intro "BranchCells$Pile" (by decide) rfl (Nat.le_of_ble_eq_true rfl) ?_
  intro X hG hX hr hN hC hF hAd
  refine kk_aload_n (pc := 0) hX dX31_top_0 rfl ?_
  refine kk_getI (pc := 1) hX fl_X31_9_31 dX31_top_1 hth rfl ?_
  refine kk_top 0 hs ?_
  refine kk_if_ne (pc := 4) hX 11 dX31_top_4 rfl (fun q => absurd rfl q) (fun _ => ?_)
  refine kk_null (pc := 7) hX dX31_top_7 ?_
  refine kk_goto (pc := 8) hX 22 dX31_top_8 rfl ?_
  exact kk_aret (pc := 22) hX dX31_top_22 hr ⟨Nat.le_refl _, Nat.le_refl _⟩ (Or.inl ⟨_, rfl⟩) (⟨rfl, rfl, rfl, rfl, rfl⟩)

theorem v_top (G : jj_G) (τ : jj_T) (I : jj_I) (L : jj_L) (r : jj_R) (th b n : Nat) (hth : τ th = some (.inl 31)) (hrb : r th 1 = some b) (hkb : τ b = some (.inr (4, 12))) (hs : I th 2 = nI n) (x : Option Nat) (hn : 1 ≤ n) (hn9 : n ≤ 12) (hx : r b (n - 1) = x) : kk_M G yX31_top (ws_ yX31_top cX31_top 1 (some (.object "BranchCells$Task"))) { frames := 0, cells := 0, slots := 0, locals := 0 } [jR (some th)] false τ I L r (jj_eq (some (jR x)) τ I L r) jj_no := by
  refine kk_intro "BranchCells$Pile" (by decide) rfl (Nat.le_of_ble_eq_true rfl) ?_
  intro X hG hX hr hN hC hF hAd
  refine kk_aload_n (pc := 0) hX dX31_top_0 rfl ?_
  refine kk_getI (pc := 1) hX fl_X31_9_31 dX31_top_1 hth rfl ?_
  refine kk_top (nI n) hs ?_
  refine kk_if_ne (pc := 4) hX 11 dX31_top_4 rfl (fun _ => ?_) (fun q => absurd q (fun z => absurd ((nI_eq (b := 0) (by omega) (by omega)).mp z) (by omega)))
  refine kk_aload_n (pc := 11) hX dX31_top_11 rfl ?_
  refine kk_getR (pc := 12) hX (x := some b) fl_X31_22_31 dX31_top_12 hth rfl hrb ?_
  refine kk_aload_n (pc := 15) hX dX31_top_15 rfl ?_
  refine kk_getI (pc := 16) hX fl_X31_9_31 dX31_top_16 hth rfl ?_
  refine kk_top (nI n) hs ?_
  refine kk_iconst (pc := 19) hX (v := 1) dX31_top_19 (by decide) ?_
  refine kk_isub (pc := 20) hX dX31_top_20 ?_
  refine kk_top (nI (n - 1)) (ix_sub rfl rfl (by omega)) ?_
  refine kk_aald (pc := 21) hX (x := x) (n - 1) dX31_top_21 hkb (by decide) rfl ⟨by omega, by omega⟩ hx ?_
  exact kk_aret (pc := 22) hX dX31_top_22 hr ⟨Nat.le_refl _, Nat.le_refl _⟩ (Or.inl ⟨_, rfl⟩) (⟨rfl, rfl, rfl, rfl, rfl⟩)

theorem v_Pinit (G : jj_G) (τ : jj_T) (I : jj_I) (L : jj_L) (r : jj_R) (th a b : Nat) (hth : τ th = some (.inl 31)) (ha : τ a = none ∧ ¬ (1 ≤ a ∧ a ≤ 6)) (hb : τ b = none ∧ ¬ (1 ≤ b ∧ b ≤ 6)) (hab : a ≠ b) : kk_M G yX31_init (ws_ yX31_init cX31_init 1 none) { frames := 2, cells := 2, slots := 24, locals := 41 } [jR (some th)] true τ I L r (jj_eq none (jj_t (jj_t τ a (.inr (2, 12))) b (.inr (4, 12))) (jj_z (jj_z I a 0) b 0) (jj_z (jj_z L a 0) b 0) (jj_u (jj_z (jj_u (jj_z r a none) th 0 (some a)) b none) th 1 (some b))) jj_no := by
  refine kk_intro "BranchCells$Pile" (by decide) rfl (Nat.le_of_ble_eq_true rfl) ?_
  intro X hG hX hr hN hC hF hAd
  refine kk_aload_n (pc := 0) hX dX31_init_0 rfl ?_
  refine kk_bipush (pc := 1) hX (v := 12) dX31_init_1 (by decide) ?_
  refine kk_callI (pc := 3) hX (v_Vinit31 X.1 _ _ _ _ th a b 12 hth ha hb hab (by decide)) dX31_init_3 (lw_meth q778) ⟨q808, q777, q91, rfl⟩ ⟨by decide +kernel, by decide +kernel, by show _ = some (1 : Nat); decide +kernel⟩ ⟨Nat.le_of_ble_eq_true rfl, Nat.le_of_ble_eq_true rfl, Nat.le_of_ble_eq_true rfl, Nat.le_of_ble_eq_true rfl, Nat.le_of_ble_eq_true rfl⟩ (fun _ => hF rfl) rfl (jj_keq ?_) jj_kno
  exact kk_vret (pc := 6) hX dX31_init_6 hr ⟨Nat.le_refl _, Nat.le_refl _⟩ (⟨rfl, rfl, rfl, rfl, rfl⟩)

theorem v_Binit (G : jj_G) (τ : jj_T) (I : jj_I) (L : jj_L) (r : jj_R) (th a b : Nat) (hth : τ th = some (.inl 26)) (ha : τ a = none ∧ ¬ (1 ≤ a ∧ a ≤ 6)) (hb : τ b = none ∧ ¬ (1 ≤ b ∧ b ≤ 6)) (hab : a ≠ b) : kk_M G yX26_init (ws_ yX26_init cX26_init 1 none) { frames := 1, cells := 2, slots := 80, locals := 20 } [jR (some th)] true τ I L r (jj_eq none (jj_t (jj_t τ a (.inr (0, 40))) b (.inr (0, 40))) (jj_z (jj_z I a 0) b 0) (jj_z (jj_z L a 0) b 0) (jj_u (jj_z (jj_u (jj_z r a none) th 0 (some a)) b none) th 1 (some b))) jj_no := by
  refine kk_intro "BranchCells$Block" (by decide) rfl (Nat.le_of_ble_eq_true rfl) ?_
  intro X hG hX hr hN hC hF hAd
  refine kk_aload_n (pc := 0) hX dX26_init_0 rfl ?_
  refine kk_objInit (pc := 1) hX dX26_init_1 q487 q104 q105 ⟨Nat.le_of_ble_eq_true rfl, Nat.le_of_ble_eq_true rfl⟩ ?_
  refine kk_aload_n (pc := 4) hX dX26_init_4 rfl ?_
  refine kk_bipush (pc := 5) hX (v := 40) dX26_init_5 (by decide) ?_
  refine kk_newa (pc := 7) hX 0 40 a ⟨ha.1, ha.2⟩ (hF rfl) dX26_init_7 rfl (by decide) q160 rfl (by decide) ⟨Nat.le_of_ble_eq_true rfl, Nat.le_of_ble_eq_true rfl⟩ ?_
  refine kk_putRF (pc := 9) hX (hC rfl) fl_X26_9_26 ⟨_, jc_26, rfl⟩ dX26_init_9 (Eq.trans (jj_tn (kk_nf hth ha.1)) hth) rfl ?_
  refine kk_aload_n (pc := 12) hX dX26_init_12 rfl ?_
  refine kk_bipush (pc := 13) hX (v := 40) dX26_init_13 (by decide) ?_
  refine kk_newa (pc := 15) hX 0 40 b ⟨((jj_tn (Ne.symm hab)).trans hb.1), hb.2⟩ (hF rfl) dX26_init_15 rfl (by decide) q160 rfl (by decide) ⟨Nat.le_of_ble_eq_true rfl, Nat.le_of_ble_eq_true rfl⟩ ?_
  refine kk_putRF (pc := 17) hX (hC rfl) fl_X26_15_26 ⟨_, jc_26, rfl⟩ dX26_init_17 (Eq.trans (jj_tn (kk_nf hth hb.1)) (Eq.trans (jj_tn (kk_nf hth ha.1)) hth)) rfl ?_
  exact kk_vret (pc := 20) hX dX26_init_20 hr ⟨Nat.le_refl _, Nat.le_refl _⟩ (⟨rfl, rfl, rfl, rfl, rfl⟩)

theorem v_Minit (G : jj_G) (τ : jj_T) (I : jj_I) (L : jj_L) (r : jj_R) (th a b c : Nat) (hth : τ th = some (.inl 27)) (ha : τ a = none ∧ ¬ (1 ≤ a ∧ a ≤ 6)) (hb : τ b = none ∧ ¬ (1 ≤ b ∧ b ≤ 6)) (hc : τ c = none ∧ ¬ (1 ≤ c ∧ c ≤ 6)) (hab : a ≠ b) (hac : a ≠ c) (hbc : b ≠ c) : kk_M G yX27_init (ws_ yX27_init cX27_init 1 none) { frames := 1, cells := 3, slots := 37, locals := 20 } [jR (some th)] true τ I L r (jj_eq none (jj_t (jj_t (jj_t τ a (.inr (0, 12))) b (.inr (0, 12))) c (.inr (2, 13))) (jj_z (jj_z (jj_z I a 0) b 0) c 0) (jj_z (jj_z (jj_z L a 0) b 0) c 0) (jj_u (jj_z (jj_u (jj_z (jj_u (jj_z r a none) th 0 (some a)) b none) th 1 (some b)) c none) th 3 (some c))) jj_no := by
  refine kk_intro "BranchCells$Merger" (by decide) rfl (Nat.le_of_ble_eq_true rfl) ?_
  intro X hG hX hr hN hC hF hAd
  refine kk_aload_n (pc := 0) hX dX27_init_0 rfl ?_
  refine kk_objInit (pc := 1) hX dX27_init_1 q630 q104 q105 ⟨Nat.le_of_ble_eq_true rfl, Nat.le_of_ble_eq_true rfl⟩ ?_
  refine kk_aload_n (pc := 4) hX dX27_init_4 rfl ?_
  refine kk_bipush (pc := 5) hX (v := 12) dX27_init_5 (by decide) ?_
  refine kk_newa (pc := 7) hX 0 12 a ⟨ha.1, ha.2⟩ (hF rfl) dX27_init_7 rfl (by decide) q160 rfl (by decide) ⟨Nat.le_of_ble_eq_true rfl, Nat.le_of_ble_eq_true rfl⟩ ?_
  refine kk_putRF (pc := 9) hX (hC rfl) fl_X27_9_27 ⟨_, jc_27, rfl⟩ dX27_init_9 (Eq.trans (jj_tn (kk_nf hth ha.1)) hth) rfl ?_
  refine kk_aload_n (pc := 12) hX dX27_init_12 rfl ?_
  refine kk_bipush (pc := 13) hX (v := 12) dX27_init_13 (by decide) ?_
  refine kk_newa (pc := 15) hX 0 12 b ⟨((jj_tn (Ne.symm hab)).trans hb.1), hb.2⟩ (hF rfl) dX27_init_15 rfl (by decide) q160 rfl (by decide) ⟨Nat.le_of_ble_eq_true rfl, Nat.le_of_ble_eq_true rfl⟩ ?_
  refine kk_putRF (pc := 17) hX (hC rfl) fl_X27_15_27 ⟨_, jc_27, rfl⟩ dX27_init_17 (Eq.trans (jj_tn (kk_nf hth hb.1)) (Eq.trans (jj_tn (kk_nf hth ha.1)) hth)) rfl ?_
  refine kk_aload_n (pc := 20) hX dX27_init_20 rfl ?_
  refine kk_bipush (pc := 21) hX (v := 13) dX27_init_21 (by decide) ?_
  refine kk_newa (pc := 23) hX 2 13 c ⟨((jj_tn (Ne.symm hbc)).trans ((jj_tn (Ne.symm hac)).trans hc.1)), hc.2⟩ (hF rfl) dX27_init_23 rfl (by decide) q647 rfl (by decide) ⟨Nat.le_of_ble_eq_true rfl, Nat.le_of_ble_eq_true rfl⟩ ?_
  refine kk_putRF (pc := 25) hX (hC rfl) fl_X27_18_27 ⟨_, jc_27, rfl⟩ dX27_init_25 (Eq.trans (jj_tn (kk_nf hth hc.1)) (Eq.trans (jj_tn (kk_nf hth hb.1)) (Eq.trans (jj_tn (kk_nf hth ha.1)) hth))) rfl ?_
  exact kk_vret (pc := 28) hX dX27_init_28 hr ⟨Nat.le_refl _, Nat.le_refl _⟩ (⟨rfl, rfl, rfl, rfl, rfl⟩)

theorem v_Sinit (G : jj_G) (τ : jj_T) (I : jj_I) (L : jj_L) (r : jj_R) (th a : Nat) (hth : τ th = some (.inl 28)) (ha : τ a = none ∧ ¬ (1 ≤ a ∧ a ≤ 6)) (n : Int32) (x : Option Nat) : kk_M G yX28_init (ws_ yX28_init cX28_init 3 none) { frames := 1, cells := 1, slots := 16, locals := 20 } [jR (some th), jI n, jR x] true τ I L r (jj_eq none (jj_t τ a (.inr (2, 16))) (jj_u (jj_z I a 0) th 0 n) (jj_z L a 0) (jj_u (jj_u (jj_z r a none) th 2 (some a)) th 1 x)) jj_no := by
  refine kk_intro "BranchCells$Segment" (by decide) rfl (Nat.le_of_ble_eq_true rfl) ?_
  intro X hG hX hr hN hC hF hAd
  refine kk_aload_n (pc := 0) hX dX28_init_0 rfl ?_
  refine kk_objInit (pc := 1) hX dX28_init_1 q724 q104 q105 ⟨Nat.le_of_ble_eq_true rfl, Nat.le_of_ble_eq_true rfl⟩ ?_
  refine kk_aload_n (pc := 4) hX dX28_init_4 rfl ?_
  refine kk_bipush (pc := 5) hX (v := 16) dX28_init_5 (by decide) ?_
  refine kk_newa (pc := 7) hX 2 16 a ⟨ha.1, ha.2⟩ (hF rfl) dX28_init_7 rfl (by decide) q647 rfl (by decide) ⟨Nat.le_of_ble_eq_true rfl, Nat.le_of_ble_eq_true rfl⟩ ?_
  refine kk_putRF (pc := 9) hX (hC rfl) fl_X28_9_28 ⟨_, jc_28, rfl⟩ dX28_init_9 (Eq.trans (jj_tn (kk_nf hth ha.1)) hth) rfl ?_
  refine kk_aload_n (pc := 12) hX dX28_init_12 rfl ?_
  refine kk_iload_n (pc := 13) hX dX28_init_13 rfl ?_
  refine kk_putIF (pc := 14) hX (hC rfl) fl_X28_15_28 ⟨_, jc_28, rfl⟩ dX28_init_14 (Eq.trans (jj_tn (kk_nf hth ha.1)) hth) rfl rfl ?_
  refine kk_aload_n (pc := 17) hX dX28_init_17 rfl ?_
  refine kk_aload_n (pc := 18) hX dX28_init_18 rfl ?_
  refine kk_putR (pc := 19) hX fl_X28_19_28 dX28_init_19 (Eq.trans (jj_tn (kk_nf hth ha.1)) hth) rfl ?_
  exact kk_vret (pc := 22) hX dX28_init_22 hr ⟨Nat.le_refl _, Nat.le_refl _⟩ (⟨rfl, rfl, rfl, rfl, rfl⟩)

theorem v_has (G : jj_G) (τ : jj_T) (I : jj_I) (L : jj_L) (r : jj_R) (th c : Nat) (hth : τ th = some (.inl 28)) : kk_M G yX28_has (ws_ yX28_has cX28_has 2 (some .boolean)) { frames := 0, cells := 0, slots := 0, locals := 0 } [jR (some th), jI (nI c)] false τ I L r (jj_eq (some (jI (if (I th 3 >>> (nI c &&& 31)) &&& 1 = 1 then 1 else 0))) τ I L r) jj_no := by
  refine kk_intro "BranchCells$Segment" (by decide) rfl (Nat.le_of_ble_eq_true rfl) ?_
  intro X hG hX hr hN hC hF hAd
  refine kk_aload_n (pc := 0) hX dX28_has_0 rfl ?_
  refine kk_getI (pc := 1) hX fl_X28_23_28 dX28_has_1 hth rfl ?_
  refine kk_iload_n (pc := 4) hX dX28_has_4 rfl ?_
  refine kk_ishr (pc := 5) hX dX28_has_5 ?_
  refine kk_iconst (pc := 6) hX (v := 1) dX28_has_6 (by decide) ?_
  refine kk_iand (pc := 7) hX dX28_has_7 ?_
  refine kk_iconst (pc := 8) hX (v := 1) dX28_has_8 (by decide) ?_
  refine kk_icmp_ne (pc := 9) hX 16 dX28_has_9 rfl (fun h9 => ?_) (fun h9 => ?_)
  · refine kk_iconst (pc := 16) hX (v := 0) dX28_has_16 (by decide) ?_
    refine kk_zret (pc := 17) hX dX28_has_17 hr ⟨Nat.le_refl _, Nat.le_refl _⟩ (by decide) ?_
    rw [if_neg h9]
    exact ⟨rfl, rfl, rfl, rfl, rfl⟩
  · refine kk_iconst (pc := 12) hX (v := 1) dX28_has_12 (by decide) ?_
    refine kk_goto (pc := 13) hX 17 dX28_has_13 rfl ?_
    refine kk_zret (pc := 17) hX dX28_has_17 hr ⟨Nat.le_refl _, Nat.le_refl _⟩ (by decide) ?_
    rw [if_pos h9]
    exact ⟨rfl, rfl, rfl, rfl, rfl⟩

theorem v_write (G : jj_G) (τ : jj_T) (I : jj_I) (L : jj_L) (r : jj_R) (th a : Nat) (hth : τ th = some (.inl 28)) (hra : r th 2 = some a) (hka : τ a = some (.inr (2, 16))) (c : Nat) (v : Int64) (hc : c < 16) : kk_M G yX28_write (ws_ yX28_write cX28_write 4 none) { frames := 0, cells := 0, slots := 0, locals := 0 } [jR (some th), jI (nI c), jL v] false τ I L r (jj_eq none τ (jj_u I th 3 ((I th 3) ||| (1 <<< (nI c &&& 31)))) (jj_u L a c v) r) jj_no := by
  refine kk_intro "BranchCells$Segment" (by decide) rfl (Nat.le_of_ble_eq_true rfl) ?_
  intro X hG hX hr hN hC hF hAd
  refine kk_aload_n (pc := 0) hX dX28_write_0 rfl ?_
  refine kk_getR (pc := 1) hX (x := some a) fl_X28_9_28 dX28_write_1 hth rfl hra ?_
  refine kk_iload_n (pc := 4) hX dX28_write_4 rfl ?_
  refine kk_lload_n (pc := 5) hX dX28_write_5 rfl ?_
  refine kk_last (pc := 6) hX c dX28_write_6 hka rfl ⟨by omega, by omega⟩ ?_
  refine kk_aload_n (pc := 7) hX dX28_write_7 rfl ?_
  refine kk_dup (pc := 8) hX dX28_write_8 rfl ?_
  refine kk_getI (pc := 9) hX fl_X28_23_28 dX28_write_9 hth rfl ?_
  refine kk_iconst (pc := 12) hX (v := 1) dX28_write_12 (by decide) ?_
  refine kk_iload_n (pc := 13) hX dX28_write_13 rfl ?_
  refine kk_ishl (pc := 14) hX dX28_write_14 ?_
  refine kk_ior (pc := 15) hX dX28_write_15 ?_
  refine kk_putI (pc := 16) hX fl_X28_23_28 dX28_write_16 hth rfl rfl ?_
  exact kk_vret (pc := 19) hX dX28_write_19 hr ⟨Nat.le_refl _, Nat.le_refl _⟩ (⟨rfl, rfl, rfl, rfl, rfl⟩)

theorem v_many (G : jj_G) (τ : jj_T) (I : jj_I) (L : jj_L) (r : jj_R) (th k : Nat) (hth : τ th = some (.inl 28)) (hk : I th 3 = nI k) (hk9 : k < 65536) : kk_M G yX28_many (ws_ yX28_many cX28_many 1 (some .int)) { frames := 1, cells := 0, slots := 0, locals := 20 } [jR (some th)] false τ I L r (jj_eq (some (jI (nI (bc_p k 16)))) τ I L r) jj_no := by
  refine kk_intro "BranchCells$Segment" (by decide) rfl (Nat.le_of_ble_eq_true rfl) ?_
  intro X hG hX hr hN hC hF hAd
  refine kk_aload_n (pc := 0) hX dX28_many_0 rfl ?_
  refine kk_getI (pc := 1) hX fl_X28_23_28 dX28_many_1 hth rfl ?_
  refine kk_top (nI k) hk ?_
  refine kk_callS (pc := 4) hX (v_bitCount X.1 _ _ _ _ k hk9) dX28_many_4 (lw_S q1308 q1309 q96 q1310) ⟨by decide +kernel, by decide +kernel, by show _ = some (1 : Nat); decide +kernel⟩ ⟨Nat.le_of_ble_eq_true rfl, Nat.le_of_ble_eq_true rfl, Nat.le_of_ble_eq_true rfl, Nat.le_of_ble_eq_true rfl, Nat.le_of_ble_eq_true rfl⟩ (fun q => by cases q) rfl (jj_keq ?_) jj_kno
  exact kk_iret (pc := 7) hX dX28_many_7 hr ⟨Nat.le_refl _, Nat.le_refl _⟩ (⟨rfl, rfl, rfl, rfl, rfl⟩)

theorem v_forgets (G : jj_G) (τ : jj_T) (I : jj_I) (L : jj_L) (r : jj_R) (th : Nat) (hth : τ th = some (.inl 28)) : kk_M G yX28_forgets (ws_ yX28_forgets cX28_forgets 1 none) { frames := 0, cells := 0, slots := 0, locals := 0 } [jR (some th)] false τ I L r (jj_eq none τ (jj_u (jj_u (jj_u (jj_u I th 4 0) th 5 0) th 6 0) th 7 0) L (jj_u r th 8 none)) jj_no := by
  refine kk_intro "BranchCells$Segment" (by decide) rfl (Nat.le_of_ble_eq_true rfl) ?_
  intro X hG hX hr hN hC hF hAd
  refine kk_aload_n (pc := 0) hX dX28_forgets_0 rfl ?_
  refine kk_iconst (pc := 1) hX (v := 0) dX28_forgets_1 (by decide) ?_
  refine kk_putZ (pc := 2) hX fl_X28_35_28 dX28_forgets_2 hth rfl rfl (by decide) ?_
  refine kk_aload_n (pc := 5) hX dX28_forgets_5 rfl ?_
  refine kk_iconst (pc := 6) hX (v := 0) dX28_forgets_6 (by decide) ?_
  refine kk_putZ (pc := 7) hX fl_X28_39_28 dX28_forgets_7 hth rfl rfl (by decide) ?_
  refine kk_aload_n (pc := 10) hX dX28_forgets_10 rfl ?_
  refine kk_iconst (pc := 11) hX (v := 0) dX28_forgets_11 (by decide) ?_
  refine kk_putZ (pc := 12) hX fl_X28_42_28 dX28_forgets_12 hth rfl rfl (by decide) ?_
  refine kk_aload_n (pc := 15) hX dX28_forgets_15 rfl ?_
  refine kk_iconst (pc := 16) hX (v := 0) dX28_forgets_16 (by decide) ?_
  refine kk_putI (pc := 17) hX fl_X28_45_28 dX28_forgets_17 hth rfl rfl ?_
  refine kk_aload_n (pc := 20) hX dX28_forgets_20 rfl ?_
  refine kk_null (pc := 21) hX dX28_forgets_21 ?_
  refine kk_putR (pc := 22) hX fl_X28_48_28 dX28_forgets_22 hth rfl ?_
  exact kk_vret (pc := 25) hX dX28_forgets_25 hr ⟨Nat.le_refl _, Nat.le_refl _⟩ (⟨rfl, rfl, rfl, rfl, rfl⟩)
