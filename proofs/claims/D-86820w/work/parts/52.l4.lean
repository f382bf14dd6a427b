set_option maxRecDepth 100000
theorem v_Sread_l {X : jj_X} {o : jj_T} (hX : kk_ok X cX28_read "BranchCells$Segment" 3 1 21 0 0) (hr : jj_Ret X (some .long)) {τ : jj_T} {I : jj_I} {L : jj_L} {r : jj_R} {β : Nat} {ss : List Nat} {e N : Nat → Nat} {ρ : jm} {pl : Nat → Int32} {σ : jm} (h : cr_rel β ss e N ρ pl σ τ I L r) (hu : m_und σ) (c : Nat) (x : Option Nat) (hc : c < 16) : ∀ (n : Nat) (y : Int32), n ≤ nv (σ.1 0 36) → m_ch n y → cr_in ss y → kk_J X o (kk_End X o (jj_eq (some (jL (m_rd c σ (n + 1) y))) τ I L r) jj_no 0 0) 0 0 2 [(0, jR x), (1, jI (nI c)), (2, jR (cr_sr β y))] [] τ I L r := by
  have hu1 := hu.1
  intro n
  induction n with
  | zero =>
    intro y hn hs hi
    have h5 : y = -4 := hs.elim id (fun q => absurd q.2 (Nat.not_lt_zero _))
    rw [show cr_sr β y = none from if_pos h5]
    unfold m_rd
    rw [if_pos h5]
    refine kk_aload_n (pc := 2) hX dX28_read_2 rfl ?_
    refine kk_ifnull (pc := 3) hX 22 dX28_read_3 rfl (fun _ => ?_) (fun _ q => by cases q)
    refine kk_aload_n (pc := 22) hX dX28_read_22 rfl ?_
    refine kk_ifnonnull (pc := 23) hX 30 dX28_read_23 rfl (fun _ q => by cases q) (fun _ => ?_)
    refine kk_lconst (pc := 26) hX (v := 0) dX28_read_26 (by decide) ?_
    refine kk_goto (pc := 27) hX 36 dX28_read_27 rfl ?_
    exact kk_lret (pc := 36) hX dX28_read_36 hr ⟨Nat.le_refl _, Nat.le_refl _⟩ (⟨rfl, rfl, rfl, rfl, rfl⟩)
  | succ n ih =>
    intro y hn hs hi
    unfold m_rd
    by_cases h5 : y = -4
    · rw [show cr_sr β y = none from if_pos h5, if_pos h5]
      refine kk_aload_n (pc := 2) hX dX28_read_2 rfl ?_
      refine kk_ifnull (pc := 3) hX 22 dX28_read_3 rfl (fun _ => ?_) (fun _ q => by cases q)
      refine kk_aload_n (pc := 22) hX dX28_read_22 rfl ?_
      refine kk_ifnonnull (pc := 23) hX 30 dX28_read_23 rfl (fun _ q => by cases q) (fun _ => ?_)
      refine kk_lconst (pc := 26) hX (v := 0) dX28_read_26 (by decide) ?_
      refine kk_goto (pc := 27) hX 36 dX28_read_27 rfl ?_
      exact kk_lret (pc := 36) hX dX28_read_36 hr ⟨Nat.le_refl _, Nat.le_refl _⟩ (⟨rfl, rfl, rfl, rfl, rfl⟩)
    · rw [show cr_sr β y = some (β + 1000 + 10 * nv y) from if_neg h5, if_neg h5]
      obtain ⟨hs1, hs2⟩ := hs.resolve_left h5
      have hi2 := hi.resolve_left h5
      have hu2 := hu.2 (nv y) (by omega)
      have hs := h.sg (nv y) (by omega)
      refine kk_aload_n (pc := 2) hX dX28_read_2 rfl ?_
      refine kk_ifnull (pc := 3) hX 22 dX28_read_3 rfl (fun q => by cases q) (fun _ _ => ?_)
      refine kk_aload_n (pc := 6) hX dX28_read_6 rfl ?_
      refine kk_iload_n (pc := 7) hX dX28_read_7 rfl ?_
      refine kk_callV (pc := 8) hX (v_has X.1 _ _ _ _ (β + 1000 + 10 * nv y) c hs.k0) dX28_read_8 (lw_V q1173 q1174 q1175 q87 q1176) rfl ⟨by decide +kernel, by decide +kernel, by show _ = some (1 : Nat); decide +kernel⟩ ⟨Nat.le_of_ble_eq_true rfl, Nat.le_of_ble_eq_true rfl, Nat.le_of_ble_eq_true rfl, Nat.le_of_ble_eq_true rfl, Nat.le_of_ble_eq_true rfl⟩ (fun q => by cases q) hs.k0 jc_28 rfl (jj_keq ?_) jj_kno
      by_cases hf : σ.1 39 (16 * nv y + c) = 0
      · refine kk_top 0 (by rw [hs.ha]; exact if_neg (fun z => cs_has hc |>.mp z hf)) ?_
        rw [if_pos hf]
        refine kk_if_ne (pc := 11) hX 22 dX28_read_11 rfl (fun q => absurd (by decide) q) (fun _ => ?_)
        refine kk_aload_n (pc := 14) hX dX28_read_14 rfl ?_
        refine kk_getR (pc := 15) hX (x := (cr_sr β (σ.1 38 (nv y)))) fl_X28_19_28 dX28_read_15 hs.k0 rfl (hs.be hi2) ?_
        refine kk_astore_n (pc := 18) hX dX28_read_18 (by decide) ?_
        refine kk_goto (pc := 19) hX 2 dX28_read_19 rfl ?_
        refine kk_lss [(0, jR x), (1, jI (nI c)), (2, jR (cr_sr β (σ.1 38 (nv y))))] ⟨rfl, rfl, rfl, trivial⟩ ?_
        exact ih _ (by omega) (hu2.le (by omega)) (h.ss.un _ hi2)
      · refine kk_top 1 (by rw [hs.ha]; exact if_pos ((cs_has hc).mpr hf)) ?_
        rw [if_neg hf]
        refine kk_if_ne (pc := 11) hX 22 dX28_read_11 rfl (fun _ => ?_) (fun q => absurd q (by decide))
        refine kk_aload_n (pc := 22) hX dX28_read_22 rfl ?_
        refine kk_ifnonnull (pc := 23) hX 30 dX28_read_23 rfl (fun _ _ => ?_) (fun q => by cases q)
        refine kk_aload_n (pc := 30) hX dX28_read_30 rfl ?_
        refine kk_getR (pc := 31) hX (x := some (β + 1000 + 10 * nv y + 1)) fl_X28_9_28 dX28_read_31 hs.k0 rfl hs.l2 ?_
        refine kk_iload_n (pc := 34) hX dX28_read_34 rfl ?_
        refine kk_lald (pc := 35) hX c dX28_read_35 hs.k1 rfl rfl ⟨hc, by omega⟩ ?_
        refine kk_topL (σ.2 40 (16 * nv y + c)) (hs.va c hc hf) ?_
        exact kk_lret (pc := 36) hX dX28_read_36 hr ⟨Nat.le_refl _, Nat.le_refl _⟩ (⟨rfl, rfl, rfl, rfl, rfl⟩)

theorem v_Sread (G : jj_G) (τ : jj_T) (I : jj_I) (L : jj_L) (r : jj_R) {β : Nat} {ss : List Nat} {e N : Nat → Nat} {ρ : jm} {pl : Nat → Int32} {σ : jm} (h : cr_rel β ss e N ρ pl σ τ I L r) (hu : m_und σ) (y : Int32) (c : Nat) (hc : c < 16) (hy : m_ch (nv (σ.1 0 36)) y) (hi : cr_in ss y) : kk_M G yX28_read (ws_ yX28_read cX28_read 3 (some .long)) { frames := 1, cells := 0, slots := 0, locals := 21 } [jR (cr_sr β y), jI (nI c)] false τ I L r (jj_eq (some (jL (m_rd c σ 170 y))) τ I L r) jj_no := by
  refine kk_intro "BranchCells$Segment" (by decide) rfl (Nat.le_of_ble_eq_true rfl) ?_
  intro X hG hX hr hN hC hF hAd
  refine kk_aload_n (pc := 0) hX dX28_read_0 rfl ?_
  refine kk_astore_n (pc := 1) hX dX28_read_1 (by decide) ?_
  rw [m_rd_170 hu hy]
  refine kk_lss [(0, jR (cr_sr β y)), (1, jI (nI c)), (2, jR (cr_sr β y))] ⟨rfl, rfl, rfl, trivial⟩ ?_
  exact v_Sread_l hX hr h hu c (cr_sr β y) hc _ y (Nat.le_refl _) hy hi
