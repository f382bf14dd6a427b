set_option maxRecDepth 100000
theorem kk_top {X : jj_X} {o : jj_T} {Q : State → Prop} {k n pc : Nat} {ls : List (Nat × jj_v)} {st : List jj_v} {τ : jj_T} {I : jj_I} {L : jj_L} {r : jj_R} {x : Int32} (y : Int32) (h : x = y) (kk : kk_J X o Q k n pc ls (jI y :: st) τ I L r) : kk_J X o Q k n pc ls (jI x :: st) τ I L r := by rw [h]; exact kk
theorem kk_topL {X : jj_X} {o : jj_T} {Q : State → Prop} {k n pc : Nat} {ls : List (Nat × jj_v)} {st : List jj_v} {τ : jj_T} {I : jj_I} {L : jj_L} {r : jj_R} {x : Int64} (y : Int64) (h : x = y) (kk : kk_J X o Q k n pc ls (jL y :: st) τ I L r) : kk_J X o Q k n pc ls (jL x :: st) τ I L r := by rw [h]; exact kk
theorem v_size (G : jj_G) (τ : jj_T) (I : jj_I) (L : jj_L) (r : jj_R) (th : Nat) (hth : τ th = some (.inl 33)) : kk_M G yJ2_size (ws_ yJ2_size cJ2_size 1 (some .int)) { frames := 0, cells := 0, slots := 0, locals := 0 } [jR (some th)] false τ I L r (jj_eq (some (jI (I th 2))) τ I L r) jj_no := by
  refine kk_intro "java/util/ArrayList" (by decide) rfl (Nat.le_of_ble_eq_true rfl) ?_
  intro X hG hX hr hN hC hF hAd
  refine kk_aload_n (pc := 0) hX dJ2_size_0 rfl ?_
  refine kk_getI (pc := 1) hX fl_J2_48_33 dJ2_size_1 hth rfl ?_
  exact kk_iret (pc := 4) hX dJ2_size_4 hr ⟨Nat.le_refl _, Nat.le_refl _⟩ (⟨rfl, rfl, rfl, rfl, rfl⟩)

theorem v_isEmpty (G : jj_G) (τ : jj_T) (I : jj_I) (L : jj_L) (r : jj_R) (th : Nat) (hth : τ th = some (.inl 33)) : kk_M G yJ2_isEmpty (ws_ yJ2_isEmpty cJ2_isEmpty 1 (some .boolean)) { frames := 0, cells := 0, slots := 0, locals := 0 } [jR (some th)] false τ I L r (jj_eq (some (jI (if I th 2 = 0 then 1 else 0))) τ I L r) jj_no := by
  refine kk_intro "java/util/ArrayList" (by decide) rfl (Nat.le_of_ble_eq_true rfl) ?_
  intro X hG hX hr hN hC hF hAd
  refine kk_aload_n (pc := 0) hX dJ2_isEmpty_0 rfl ?_
  refine kk_getI (pc := 1) hX fl_J2_48_33 dJ2_isEmpty_1 hth rfl ?_
  refine kk_if_ne (pc := 4) hX 11 dJ2_isEmpty_4 rfl (fun h4 => ?_) (fun h4 => ?_)
  · refine kk_iconst (pc := 11) hX (v := 0) dJ2_isEmpty_11 (by decide) ?_
    refine kk_zret (pc := 12) hX dJ2_isEmpty_12 hr ⟨Nat.le_refl _, Nat.le_refl _⟩ (by decide) ?_
    rw [if_neg h4]
    exact ⟨rfl, rfl, rfl, rfl, rfl⟩
  · refine kk_iconst (pc := 7) hX (v := 1) dJ2_isEmpty_7 (by decide) ?_
    refine kk_goto (pc := 8) hX 12 dJ2_isEmpty_8 rfl ?_
    refine kk_zret (pc := 12) hX dJ2_isEmpty_12 hr ⟨Nat.le_refl _, Nat.le_refl _⟩ (by decide) ?_
    rw [if_pos h4]
    exact ⟨rfl, rfl, rfl, rfl, rfl⟩

theorem v_preCheck (G : jj_G) (τ : jj_T) (I : jj_I) (L : jj_L) (r : jj_R) (i n : Nat) (x : Option Nat) (h : i < n) (hn : n < 2147483648) : kk_M G yJ7_checkIndex (ws_ yJ7_checkIndex cJ7_checkIndex 3 (some .int)) { frames := 0, cells := 0, slots := 0, locals := 0 } [jI (nI i), jI (nI n), jR x] false τ I L r (jj_eq (some (jI (nI i))) τ I L r) jj_no := by
  refine kk_intro "jdk/internal/util/Preconditions" (by decide) rfl (Nat.le_of_ble_eq_true rfl) ?_
  intro X hG hX hr hN hC hF hAd
  refine kk_iload_n (pc := 0) hX dJ7_checkIndex_0 rfl ?_
  refine kk_if_lt (pc := 1) hX 9 dJ7_checkIndex_1 rfl (fun q => absurd q (nI_pos (by omega))) (fun _ => ?_)
  refine kk_iload_n (pc := 4) hX dJ7_checkIndex_4 rfl ?_
  refine kk_iload_n (pc := 5) hX dJ7_checkIndex_5 rfl ?_
  refine kk_icmp_lt (pc := 6) hX 16 dJ7_checkIndex_6 rfl (fun _ => ?_) (fun q => absurd (nI_lt h hn) q)
  refine kk_iload_n (pc := 16) hX dJ7_checkIndex_16 rfl ?_
  exact kk_iret (pc := 17) hX dJ7_checkIndex_17 hr ⟨Nat.le_refl _, Nat.le_refl _⟩ (⟨rfl, rfl, rfl, rfl, rfl⟩)

theorem v_checkIndex (G : jj_G) (τ : jj_T) (I : jj_I) (L : jj_L) (r : jj_R) (i n : Nat) (h : i < n) (hn : n < 2147483648) : kk_M G yJ6_checkIndex (ws_ yJ6_checkIndex cJ6_checkIndex 2 (some .int)) { frames := 1, cells := 0, slots := 0, locals := 22 } [jI (nI i), jI (nI n)] false τ I L r (jj_eq (some (jI (nI i))) τ I L r) jj_no := by
  refine kk_intro "java/util/Objects" (by decide) rfl (Nat.le_of_ble_eq_true rfl) ?_
  intro X hG hX hr hN hC hF hAd
  refine kk_iload_n (pc := 0) hX dJ6_checkIndex_0 rfl ?_
  refine kk_iload_n (pc := 1) hX dJ6_checkIndex_1 rfl ?_
  refine kk_null (pc := 2) hX dJ6_checkIndex_2 ?_
  refine kk_callS (pc := 3) hX (v_preCheck X.1 _ _ _ _ i n none h hn) dJ6_checkIndex_3 (lw_S q614 q615 q85 q616) ⟨by decide +kernel, by decide +kernel, by show _ = some (3 : Nat); decide +kernel⟩ ⟨Nat.le_of_ble_eq_true rfl, Nat.le_of_ble_eq_true rfl, Nat.le_of_ble_eq_true rfl, Nat.le_of_ble_eq_true rfl, Nat.le_of_ble_eq_true rfl⟩ (fun q => by cases q) rfl (jj_keq ?_) jj_kno
  exact kk_iret (pc := 6) hX dJ6_checkIndex_6 hr ⟨Nat.le_refl _, Nat.le_refl _⟩ (⟨rfl, rfl, rfl, rfl, rfl⟩)

theorem v_elementData (G : jj_G) (τ : jj_T) (I : jj_I) (L : jj_L) (r : jj_R) (th : Nat) (hth : τ th = some (.inl 33)) (e N i : Nat) (x : Option Nat) (he : r th 1 = some e) (hk : τ e = some (.inr (3, N))) (hi : i < N) (hN9 : N < 1000000) (hx : r e i = x) : kk_M G yJ2_elementData (ws_ yJ2_elementData cJ2_elementData 2 (some (.object "java/lang/Object"))) { frames := 0, cells := 0, slots := 0, locals := 0 } [jR (some th), jI (nI i)] false τ I L r (jj_eq (some (jR x)) τ I L r) jj_no := by
  refine kk_intro "java/util/ArrayList" (by decide) rfl (Nat.le_of_ble_eq_true rfl) ?_
  intro X hG hX hr hN hC hF hAd
  refine kk_aload_n (pc := 0) hX dJ2_elementData_0 rfl ?_
  refine kk_getR (pc := 1) hX (x := some e) fl_J2_9_33 dJ2_elementData_1 hth rfl he ?_
  refine kk_iload_n (pc := 4) hX dJ2_elementData_4 rfl ?_
  refine kk_aald (pc := 5) hX (x := x) i dJ2_elementData_5 hk (by decide) rfl ⟨by omega, by omega⟩ hx ?_
  exact kk_aret (pc := 6) hX dJ2_elementData_6 hr ⟨Nat.le_refl _, Nat.le_refl _⟩ (Or.inl ⟨_, rfl⟩) (⟨rfl, rfl, rfl, rfl, rfl⟩)

theorem v_get (G : jj_G) (τ : jj_T) (I : jj_I) (L : jj_L) (r : jj_R) (th i : Nat) (hth : τ th = some (.inl 33)) (n : Nat) (hn : I th 2 = nI n) (hin : i < n) (e N : Nat) (x : Option Nat) (he : r th 1 = some e) (hk : τ e = some (.inr (3, N))) (hi : i < N) (hnN : n ≤ N) (hN9 : N < 1000000) (hx : r e i = x) : kk_M G yJ2_get (ws_ yJ2_get cJ2_get 2 (some (.object "java/lang/Object"))) { frames := 2, cells := 0, slots := 0, locals := 43 } [jR (some th), jI (nI i)] false τ I L r (jj_eq (some (jR x)) τ I L r) jj_no := by
  refine kk_intro "java/util/ArrayList" (by decide) rfl (Nat.le_of_ble_eq_true rfl) ?_
  intro X hG hX hr hN hC hF hAd
  refine kk_iload_n (pc := 0) hX dJ2_get_0 rfl ?_
  refine kk_aload_n (pc := 1) hX dJ2_get_1 rfl ?_
  refine kk_getI (pc := 2) hX fl_J2_48_33 dJ2_get_2 hth rfl ?_
  refine kk_top (nI n) hn ?_
  refine kk_callS (pc := 5) hX (v_checkIndex X.1 _ _ _ _ i n hin (by omega)) dJ2_get_5 (lw_S q611 q612 q84 q613) ⟨by decide +kernel, by decide +kernel, by show _ = some (2 : Nat); decide +kernel⟩ ⟨Nat.le_of_ble_eq_true rfl, Nat.le_of_ble_eq_true rfl, Nat.le_of_ble_eq_true rfl, Nat.le_of_ble_eq_true rfl, Nat.le_of_ble_eq_true rfl⟩ (fun q => by cases q) rfl (jj_keq ?_) jj_kno
  refine kk_pop (pc := 8) hX dJ2_get_8 rfl ?_
  refine kk_aload_n (pc := 9) hX dJ2_get_9 rfl ?_
  refine kk_iload_n (pc := 10) hX dJ2_get_10 rfl ?_
  refine kk_callV (pc := 11) hX (v_elementData X.1 _ _ _ _ th hth e N i x he hk hi hN9 hx) dJ2_get_11 (lw_V q617 q618 q619 q53 q620) rfl ⟨by decide +kernel, by decide +kernel, by show _ = some (1 : Nat); decide +kernel⟩ ⟨Nat.le_of_ble_eq_true rfl, Nat.le_of_ble_eq_true rfl, Nat.le_of_ble_eq_true rfl, Nat.le_of_ble_eq_true rfl, Nat.le_of_ble_eq_true rfl⟩ (fun q => by cases q) hth jc_33 rfl (jj_keq ?_) jj_kno
  exact kk_aret (pc := 14) hX dJ2_get_14 hr ⟨Nat.le_refl _, Nat.le_refl _⟩ (Or.inl ⟨_, rfl⟩) (⟨rfl, rfl, rfl, rfl, rfl⟩)
