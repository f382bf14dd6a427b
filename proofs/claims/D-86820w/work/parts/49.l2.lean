set_option maxRecDepth 100000
theorem kk_x12 {q : Option Nat} {x g : Int32} (h : cr_st x q g) : kk_x q := by
  rcases h with ⟨-, h, -⟩ | ⟨-, h, -⟩ | ⟨-, h, -⟩ | ⟨-, h | h, -⟩ <;> rw [h] <;> exact ⟨by simp, by simp⟩
theorem cr_st_0 {q : Option Nat} {x g : Int32} (h : cr_st x q g) : q = some 1 ↔ x = 0 := by
  rcases h with ⟨h1, h2, -⟩ | ⟨h1, h2, -⟩ | ⟨h1, h2, -⟩ | ⟨h1, h2 | h2, -⟩ <;> rw [h1, h2] <;> decide
theorem cr_st_2 {q : Option Nat} {x g : Int32} (h : cr_st x q g) (hg : g = 0) : q = some 2 ↔ x = 2 := by
  rcases h with ⟨h1, h2, h3⟩ | ⟨h1, h2, h3⟩ | ⟨h1, h2, h3⟩ | ⟨h1, h2, h3⟩
  · rw [h1, h2]; decide
  · rw [h1, h2]; decide
  · rw [h1, h2]; decide
  · rw [h3] at hg; exact absurd hg (by decide)
theorem cr_st_3 {q : Option Nat} {x g : Int32} (h : cr_st x q g) (hg : g = 0) : q = some 3 ↔ x = 3 := by
  rcases h with ⟨h1, h2, h3⟩ | ⟨h1, h2, h3⟩ | ⟨h1, h2, h3⟩ | ⟨h1, h2, h3⟩
  · rw [h1, h2]; decide
  · rw [h1, h2]; decide
  · rw [h1, h2]; decide
  · rw [h3] at hg; exact absurd hg (by decide)
theorem cr_st_g {q : Option Nat} {x g : Int32} (h : cr_st x q g) : g = 0 ↔ ¬ x = 4 := by
  rcases h with ⟨h1, h2, h3⟩ | ⟨h1, h2, h3⟩ | ⟨h1, h2, h3⟩ | ⟨h1, h2, h3⟩ <;> rw [h1, h3] <;> decide
theorem nv_le {x : Int32} {n m : Nat} (h : jb x n) (hn : n < 2147483648) (hm : m < 2147483648) : nI m ≤ x ↔ m ≤ nv x := by
  rw [h.1, nI_leI hm (by have := h.2; omega), ← h.1]
theorem v_isOver (G : jj_G) (τ : jj_T) (I : jj_I) (L : jj_L) (r : jj_R) {β : Nat} {ss : List Nat} {e N : Nat → Nat} {ρ : jm} {pl : Nat → Int32} {σ : jm} (h : cr_rel β ss e N ρ pl σ τ I L r) (hv : m_inv σ) {t : Nat} (ht : t < nv (σ.1 0 11)) : kk_M G yX29_isOver (ws_ yX29_isOver cX29_isOver 1 (some .boolean)) { frames := 0, cells := 0, slots := 0, locals := 0 } [jR (some (β + 5000 + 20 * t))] false τ I L r (jj_eq (some (jI (if σ.1 15 t = 0 then 0 else 1))) τ I L r) jj_no := by
  refine kk_intro "BranchCells$Task" (by decide) rfl (Nat.le_of_ble_eq_true rfl) ?_
  intro X hG hX hr hN hC hF hAd
  have hk := h.tk t ht
  have hT := hv.T
  refine kk_aload_n (pc := 0) hX dX29_isOver_0 rfl ?_
  refine kk_getR (pc := 1) hX (x := (r (β + 5000 + 20 * t) 10)) fl_X29_15_29 dX29_isOver_1 hk.k.k0 rfl rfl ?_
  refine kk_gets1 (pc := 4) hX dX29_isOver_4 q772 ?_
  refine kk_acmp_eq (pc := 7) hX 14 (kk_x12 hk.v.st) ⟨by simp, by simp⟩ dX29_isOver_7 rfl (fun h7 => ?_) (fun h7 => ?_)
  · refine kk_iconst (pc := 14) hX (v := 0) dX29_isOver_14 (by decide) ?_
    refine kk_zret (pc := 15) hX dX29_isOver_15 hr ⟨Nat.le_refl _, Nat.le_refl _⟩ (by decide) ?_
    rw [if_pos ((cr_st_0 hk.v.st).mp h7)]
    exact ⟨rfl, rfl, rfl, rfl, rfl⟩
  · refine kk_iconst (pc := 10) hX (v := 1) dX29_isOver_10 (by decide) ?_
    refine kk_goto (pc := 11) hX 15 dX29_isOver_11 rfl ?_
    refine kk_zret (pc := 15) hX dX29_isOver_15 hr ⟨Nat.le_refl _, Nat.le_refl _⟩ (by decide) ?_
    rw [if_neg (fun z => h7 ((cr_st_0 hk.v.st).mpr z))]
    exact ⟨rfl, rfl, rfl, rfl, rfl⟩

theorem cr_tr_n {β : Nat} {x : Int32} : cr_tr β x = none ↔ x = -4 := by
  unfold cr_tr
  by_cases h : x = -4
  · rw [if_pos h]; exact ⟨fun _ => h, fun _ => rfl⟩
  · rw [if_neg h]; exact ⟨fun z => (by cases z), fun z => absurd z h⟩
theorem cr_sr_n {β : Nat} {x : Int32} : cr_sr β x = none ↔ x = -4 := by
  unfold cr_sr
  by_cases h : x = -4
  · rw [if_pos h]; exact ⟨fun _ => h, fun _ => rfl⟩
  · rw [if_neg h]; exact ⟨fun z => (by cases z), fun z => absurd z h⟩
theorem nI_n4 {n : Nat} (h : n < 2147483648) : ¬ nI n = -4 := by
  intro z
  have q := congrArg Int32.toInt z
  rw [nI_toInt h, show (-4 : Int32).toInt = -4 from rfl] at q
  omega
theorem v_waitsFor (G : jj_G) (τ : jj_T) (I : jj_I) (L : jj_L) (r : jj_R) {β : Nat} {ss : List Nat} {e N : Nat → Nat} {ρ : jm} {σ : jm} (h : cr_rel β ss e N ρ (σ.1 14) σ τ I L r) (hv : m_inv σ) {t : Nat} (ht : t < nv (σ.1 0 11)) : kk_M G yX29_waitsFor (ws_ yX29_waitsFor cX29_waitsFor 2 (some (.object "BranchCells$Task"))) { frames := 1, cells := 0, slots := 0, locals := 20 } [jR (some (β + 5000 + 20 * t))] false τ I L r (jj_eq (some (jR (cr_tr β (m_waits t σ)))) τ I L r) jj_no := by
  refine kk_intro "BranchCells$Task" (by decide) rfl (Nat.le_of_ble_eq_true rfl) ?_
  intro X hG hX hr hN hC hF hAd
  have hk := h.tk t ht
  have hT := hv.T
  have hb := h.bl _ (hv.tk t ht).blk.2
  refine kk_aload_n (pc := 0) hX dX29_waitsFor_0 rfl ?_
  refine kk_callV (pc := 1) hX (v_isOver X.1 _ _ _ _ h hv ht) dX29_waitsFor_1 (lw_V q945 q946 q947 q88 q948) rfl ⟨by decide +kernel, by decide +kernel, by show _ = some (0 : Nat); decide +kernel⟩ ⟨Nat.le_of_ble_eq_true rfl, Nat.le_of_ble_eq_true rfl, Nat.le_of_ble_eq_true rfl, Nat.le_of_ble_eq_true rfl, Nat.le_of_ble_eq_true rfl⟩ (fun q => by cases q) hk.k.k0 jc_29 rfl (jj_kif (fun h4 => ?_) (fun h4 => ?_)) jj_kno
  · refine kk_if_ne (pc := 4) hX 34 dX29_waitsFor_4 rfl (fun q => absurd (by decide) q) (fun _ => ?_)
    refine kk_aload_n (pc := 7) hX dX29_waitsFor_7 rfl ?_
    refine kk_getR (pc := 8) hX (x := some (100 + 10 * nv (σ.1 13 t))) fl_X29_66_29 dX29_waitsFor_8 hk.k.k0 rfl hk.f.bl ?_
    refine kk_getR (pc := 11) hX (x := some (100 + 10 * nv (σ.1 13 t) + 1)) fl_X29_81_26 dX29_waitsFor_11 hb.k0 rfl hb.l0 ?_
    refine kk_aload_n (pc := 14) hX dX29_waitsFor_14 rfl ?_
    refine kk_getI (pc := 15) hX fl_X29_87_29 dX29_waitsFor_15 hk.k.k0 rfl ?_
    refine kk_top (σ.1 14 t) hk.v.pl ?_
    refine kk_iald (pc := 18) hX (nv (σ.1 14 t)) dX29_waitsFor_18 hb.k1 rfl (hv.pl39 ht h4).1 ⟨by have := (hv.pl39 ht h4).2; omega, by have := (hv.pl39 ht h4).2; omega⟩ ?_
    refine kk_top (σ.1 3 (40 * nv (σ.1 13 t) + nv (σ.1 14 t))) (hb.co _ ((hv.tk t ht).pl.2 h4)).1 ?_
    refine kk_bipush (pc := 19) hX (v := 18) dX29_waitsFor_19 (by decide) ?_
    refine kk_icmp_ne (pc := 21) hX 34 dX29_waitsFor_21 rfl (fun h21 => ?_) (fun h21 => ?_)
    · refine kk_null (pc := 34) hX dX29_waitsFor_34 ?_
      refine kk_aret (pc := 35) hX dX29_waitsFor_35 hr ⟨Nat.le_refl _, Nat.le_refl _⟩ (Or.inl ⟨_, rfl⟩) ?_
      refine ⟨congrArg (fun z => some (jR z)) ?_, rfl, rfl, rfl, rfl⟩
      unfold m_waits
      rw [if_pos h4, if_neg h21]
      exact (if_pos rfl).symm
    · refine kk_aload_n (pc := 24) hX dX29_waitsFor_24 rfl ?_
      refine kk_getI (pc := 25) hX fl_X29_90_29 dX29_waitsFor_25 hk.k.k0 rfl ?_
      refine kk_top (σ.1 17 t) hk.v.sp ?_
      refine kk_sipush (pc := 28) hX (v := 200) dX29_waitsFor_28 (by decide) ?_
      refine kk_icmp_lt (pc := 31) hX 36 dX29_waitsFor_31 rfl (fun h31 => ?_) (fun h31 => ?_)
      · refine kk_aload_n (pc := 36) hX dX29_waitsFor_36 rfl ?_
        refine kk_getR (pc := 37) hX (x := some (β + 5000 + 20 * t + 7)) fl_X29_41_29 dX29_waitsFor_37 hk.k.k0 rfl hk.l.pi ?_
        rcases Nat.eq_zero_or_pos (nv (σ.1 32 t)) with hz | hz
        · have hz0 : σ.1 32 t = 0 := (hv.tk t ht).po.1.1.trans (congrArg nI hz)
          refine kk_callV (pc := 40) hX (v_top0 X.1 _ _ _ _ (β + 5000 + 20 * t + 7) hk.k.k7 (hk.v.ps.trans hz0)) dX29_waitsFor_40 (lw_V q953 q954 q955 q92 q956) rfl ⟨by decide +kernel, by decide +kernel, by show _ = some (0 : Nat); decide +kernel⟩ ⟨Nat.le_of_ble_eq_true rfl, Nat.le_of_ble_eq_true rfl, Nat.le_of_ble_eq_true rfl, Nat.le_of_ble_eq_true rfl, Nat.le_of_ble_eq_true rfl⟩ (fun q => by cases q) hk.k.k7 jc_31 rfl (jj_keq ?_) jj_kno
          refine kk_astore_n (pc := 43) hX dX29_waitsFor_43 (by decide) ?_
          refine kk_aload_n (pc := 44) hX dX29_waitsFor_44 rfl ?_
          refine kk_ifnull (pc := 45) hX 55 dX29_waitsFor_45 rfl (fun _ => ?_) (fun _ q => by cases q)
          refine kk_null (pc := 55) hX dX29_waitsFor_55 ?_
          refine kk_goto (pc := 56) hX 60 dX29_waitsFor_56 rfl ?_
          refine kk_aret (pc := 60) hX dX29_waitsFor_60 hr ⟨Nat.le_refl _, Nat.le_refl _⟩ (Or.inl ⟨_, rfl⟩) ?_
          refine ⟨congrArg (fun z => some (jR z)) ?_, rfl, rfl, rfl, rfl⟩
          unfold m_waits
          rw [if_pos h4, if_pos h21, if_pos hz0]
          exact (if_pos rfl).symm
        · have hp9 := (hv.tk t ht).po.1
          have hz0 : ¬ σ.1 32 t = 0 := fun z => by rw [z] at hz; exact absurd hz (by decide)
          have ei : 12 * t + nv (σ.1 32 t) - 1 = 12 * t + (nv (σ.1 32 t) - 1) := by omega
          by_cases hf : σ.1 31 (12 * t + (nv (σ.1 32 t) - 1)) = 0
          · refine kk_callV (pc := 40) hX (v_top X.1 _ _ _ _ (β + 5000 + 20 * t + 7) (β + 5000 + 20 * t + 9) (nv (σ.1 32 t)) hk.k.k7 hk.l.p1 hk.k.k9 (hk.v.ps.trans hp9.1) none hz hp9.2 ((hk.c.ph _ (by omega)).trans (if_pos hf))) dX29_waitsFor_40 (lw_V q953 q954 q955 q92 q956) rfl ⟨by decide +kernel, by decide +kernel, by show _ = some (0 : Nat); decide +kernel⟩ ⟨Nat.le_of_ble_eq_true rfl, Nat.le_of_ble_eq_true rfl, Nat.le_of_ble_eq_true rfl, Nat.le_of_ble_eq_true rfl, Nat.le_of_ble_eq_true rfl⟩ (fun q => by cases q) hk.k.k7 jc_31 rfl (jj_keq ?_) jj_kno
            refine kk_astore_n (pc := 43) hX dX29_waitsFor_43 (by decide) ?_
            refine kk_aload_n (pc := 44) hX dX29_waitsFor_44 rfl ?_
            refine kk_ifnull (pc := 45) hX 55 dX29_waitsFor_45 rfl (fun _ => ?_) (fun _ q => by cases q)
            refine kk_null (pc := 55) hX dX29_waitsFor_55 ?_
            refine kk_goto (pc := 56) hX 60 dX29_waitsFor_56 rfl ?_
            refine kk_aret (pc := 60) hX dX29_waitsFor_60 hr ⟨Nat.le_refl _, Nat.le_refl _⟩ (Or.inl ⟨_, rfl⟩) ?_
            refine ⟨congrArg (fun z => some (jR z)) ?_, rfl, rfl, rfl, rfl⟩
            unfold m_waits
            rw [if_pos h4, if_pos h21, if_neg hz0, if_pos h31, ei, if_pos hf]
            exact (if_pos rfl).symm
          · have ho := ((hv.tk t ht).ph _ (show nv (σ.1 32 t) - 1 < nv (σ.1 32 t) by omega) hf).nv hT
            have hk2 := h.tk _ ho.2.1
            have hn4 : ¬ (σ.2 30 (12 * t + (nv (σ.1 32 t) - 1))).toInt32 = -4 := by rw [ho.1]; exact nI_n4 (by omega)
            refine kk_callV (pc := 40) hX (v_top X.1 _ _ _ _ (β + 5000 + 20 * t + 7) (β + 5000 + 20 * t + 9) (nv (σ.1 32 t)) hk.k.k7 hk.l.p1 hk.k.k9 (hk.v.ps.trans hp9.1) (some (β + 5000 + 20 * nv (σ.2 30 (12 * t + (nv (σ.1 32 t) - 1))).toInt32)) hz hp9.2 ((hk.c.ph _ (by omega)).trans (if_neg hf))) dX29_waitsFor_40 (lw_V q953 q954 q955 q92 q956) rfl ⟨by decide +kernel, by decide +kernel, by show _ = some (0 : Nat); decide +kernel⟩ ⟨Nat.le_of_ble_eq_true rfl, Nat.le_of_ble_eq_true rfl, Nat.le_of_ble_eq_true rfl, Nat.le_of_ble_eq_true rfl, Nat.le_of_ble_eq_true rfl⟩ (fun q => by cases q) hk.k.k7 jc_31 rfl (jj_keq ?_) jj_kno
            refine kk_astore_n (pc := 43) hX dX29_waitsFor_43 (by decide) ?_
            refine kk_aload_n (pc := 44) hX dX29_waitsFor_44 rfl ?_
            refine kk_ifnull (pc := 45) hX 55 dX29_waitsFor_45 rfl (fun q => by cases q) (fun _ _ => ?_)
            refine kk_aload_n (pc := 48) hX dX29_waitsFor_48 rfl ?_
            refine kk_callV (pc := 49) hX (v_isOver X.1 _ _ _ _ h hv ho.2.1) dX29_waitsFor_49 (lw_V q945 q946 q947 q88 q948) rfl ⟨by decide +kernel, by decide +kernel, by show _ = some (0 : Nat); decide +kernel⟩ ⟨Nat.le_of_ble_eq_true rfl, Nat.le_of_ble_eq_true rfl, Nat.le_of_ble_eq_true rfl, Nat.le_of_ble_eq_true rfl, Nat.le_of_ble_eq_true rfl⟩ (fun q => by cases q) hk2.k.k0 jc_29 rfl (jj_kif (fun h49 => ?_) (fun h49 => ?_)) jj_kno
            · refine kk_if_eq (pc := 52) hX 59 dX29_waitsFor_52 rfl (fun _ => ?_) (fun q => absurd (by decide) q)
              refine kk_aload_n (pc := 59) hX dX29_waitsFor_59 rfl ?_
              refine kk_aret (pc := 60) hX dX29_waitsFor_60 hr ⟨Nat.le_refl _, Nat.le_refl _⟩ (Or.inl ⟨_, rfl⟩) ?_
              refine ⟨congrArg (fun z => some (jR z)) ?_, rfl, rfl, rfl, rfl⟩
              unfold m_waits
              rw [if_pos h4, if_pos h21, if_neg hz0, if_pos h31, ei, if_neg hf, if_pos h49]
              unfold cr_tr
              rw [if_neg hn4]
            · refine kk_if_eq (pc := 52) hX 59 dX29_waitsFor_52 rfl (fun q => absurd q (by decide)) (fun _ => ?_)
              refine kk_null (pc := 55) hX dX29_waitsFor_55 ?_
              refine kk_goto (pc := 56) hX 60 dX29_waitsFor_56 rfl ?_
              refine kk_aret (pc := 60) hX dX29_waitsFor_60 hr ⟨Nat.le_refl _, Nat.le_refl _⟩ (Or.inl ⟨_, rfl⟩) ?_
              refine ⟨congrArg (fun z => some (jR z)) ?_, rfl, rfl, rfl, rfl⟩
              unfold m_waits
              rw [if_pos h4, if_pos h21, if_neg hz0, if_pos h31, ei, if_neg hf, if_neg h49]
              exact (if_pos rfl).symm
      · refine kk_null (pc := 34) hX dX29_waitsFor_34 ?_
        refine kk_aret (pc := 35) hX dX29_waitsFor_35 hr ⟨Nat.le_refl _, Nat.le_refl _⟩ (Or.inl ⟨_, rfl⟩) ?_
        refine ⟨congrArg (fun z => some (jR z)) ?_, rfl, rfl, rfl, rfl⟩
        unfold m_waits
        rw [if_pos h4, if_pos h21, if_neg h31]
        split <;> exact (if_pos rfl).symm
  · refine kk_if_ne (pc := 4) hX 34 dX29_waitsFor_4 rfl (fun _ => ?_) (fun q => absurd q (by decide))
    refine kk_null (pc := 34) hX dX29_waitsFor_34 ?_
    refine kk_aret (pc := 35) hX dX29_waitsFor_35 hr ⟨Nat.le_refl _, Nat.le_refl _⟩ (Or.inl ⟨_, rfl⟩) ?_
    refine ⟨congrArg (fun z => some (jR z)) ?_, rfl, rfl, rfl, rfl⟩
    unfold m_waits
    rw [if_neg h4]
    exact (if_pos rfl).symm

theorem v_isReady (G : jj_G) (τ : jj_T) (I : jj_I) (L : jj_L) (r : jj_R) {β : Nat} {ss : List Nat} {e N : Nat → Nat} {ρ : jm} {σ : jm} (h : cr_rel β ss e N ρ (σ.1 14) σ τ I L r) (hv : m_inv σ) {t : Nat} (ht : t < nv (σ.1 0 11)) : kk_M G yX29_isReady (ws_ yX29_isReady cX29_isReady 1 (some .boolean)) { frames := 2, cells := 0, slots := 0, locals := 41 } [jR (some (β + 5000 + 20 * t))] false τ I L r (jj_eq (some (jI (if m_stand t σ = 0 then 1 else 0))) τ I L r) jj_no := by
  refine kk_intro "BranchCells$Task" (by decide) rfl (Nat.le_of_ble_eq_true rfl) ?_
  intro X hG hX hr hN hC hF hAd
  have hk := h.tk t ht
  have hT := hv.T
  refine kk_aload_n (pc := 0) hX dX29_isReady_0 rfl ?_
  refine kk_callV (pc := 1) hX (v_isOver X.1 _ _ _ _ h hv ht) dX29_isReady_1 (lw_V q945 q946 q947 q88 q948) rfl ⟨by decide +kernel, by decide +kernel, by show _ = some (0 : Nat); decide +kernel⟩ ⟨Nat.le_of_ble_eq_true rfl, Nat.le_of_ble_eq_true rfl, Nat.le_of_ble_eq_true rfl, Nat.le_of_ble_eq_true rfl, Nat.le_of_ble_eq_true rfl⟩ (fun q => by cases q) hk.k.k0 jc_29 rfl (jj_kif (fun h1 => ?_) (fun h1 => ?_)) jj_kno
  · refine kk_if_ne (pc := 4) hX 18 dX29_isReady_4 rfl (fun q => absurd (by decide) q) (fun _ => ?_)
    refine kk_aload_n (pc := 7) hX dX29_isReady_7 rfl ?_
    refine kk_callV (pc := 8) hX (v_waitsFor X.1 _ _ _ _ h hv ht) dX29_isReady_8 (lw_V q949 q950 q951 q88 q952) rfl ⟨by decide +kernel, by decide +kernel, by show _ = some (0 : Nat); decide +kernel⟩ ⟨Nat.le_of_ble_eq_true rfl, Nat.le_of_ble_eq_true rfl, Nat.le_of_ble_eq_true rfl, Nat.le_of_ble_eq_true rfl, Nat.le_of_ble_eq_true rfl⟩ (fun q => by cases q) hk.k.k0 jc_29 rfl (jj_keq ?_) jj_kno
    refine kk_ifnonnull (pc := 11) hX 18 dX29_isReady_11 rfl (fun a11 h11 => ?_) (fun h11 => ?_)
    · refine kk_iconst (pc := 18) hX (v := 0) dX29_isReady_18 (by decide) ?_
      refine kk_zret (pc := 19) hX dX29_isReady_19 hr ⟨Nat.le_refl _, Nat.le_refl _⟩ (by decide) ?_
      rw [if_neg (show ¬ m_stand t σ = 0 by unfold m_stand; rw [if_pos h1, if_neg (fun z => by rw [cr_tr_n.mpr z] at h11; cases h11)]; decide)]
      exact ⟨rfl, rfl, rfl, rfl, rfl⟩
    · refine kk_iconst (pc := 14) hX (v := 1) dX29_isReady_14 (by decide) ?_
      refine kk_goto (pc := 15) hX 19 dX29_isReady_15 rfl ?_
      refine kk_zret (pc := 19) hX dX29_isReady_19 hr ⟨Nat.le_refl _, Nat.le_refl _⟩ (by decide) ?_
      rw [if_pos (show m_stand t σ = 0 by unfold m_stand; rw [if_pos h1, if_pos (cr_tr_n.mp h11)])]
      exact ⟨rfl, rfl, rfl, rfl, rfl⟩
  · refine kk_if_ne (pc := 4) hX 18 dX29_isReady_4 rfl (fun _ => ?_) (fun q => absurd q (by decide))
    refine kk_iconst (pc := 18) hX (v := 0) dX29_isReady_18 (by decide) ?_
    refine kk_zret (pc := 19) hX dX29_isReady_19 hr ⟨Nat.le_refl _, Nat.le_refl _⟩ (by decide) ?_
    rw [if_neg (show ¬ m_stand t σ = 0 by unfold m_stand; rw [if_neg h1]; exact h1)]
    exact ⟨rfl, rfl, rfl, rfl, rfl⟩

theorem v_told (G : jj_G) (τ : jj_T) (I : jj_I) (L : jj_L) (r : jj_R) {β : Nat} {ss : List Nat} {e N : Nat → Nat} {ρ : jm} {σ : jm} (h : cr_rel β ss e N ρ (σ.1 14) σ τ I L r) (hv : m_inv σ) {t : Nat} (ht : t < nv (σ.1 0 11)) : kk_M G yX29_told (ws_ yX29_told cX29_told 1 (some .int)) { frames := 2, cells := 0, slots := 0, locals := 41 } [jR (some (β + 5000 + 20 * t))] false τ I L r (jj_eq (some (jI (m_stand t σ))) τ I L r) jj_no := by
  refine kk_intro "BranchCells$Task" (by decide) rfl (Nat.le_of_ble_eq_true rfl) ?_
  intro X hG hX hr hN hC hF hAd
  have hk := h.tk t ht
  have hT := hv.T
  refine kk_aload_n (pc := 0) hX dX29_told_0 rfl ?_
  refine kk_getI (pc := 1) hX fl_X29_100_29 dX29_told_1 hk.k.k0 rfl ?_
  refine kk_top (I (β + 5000 + 20 * t) 11) rfl ?_
  refine kk_if_eq (pc := 4) hX 11 dX29_told_4 rfl (fun h4 => ?_) (fun h4 => ?_)
  · refine kk_aload_n (pc := 11) hX dX29_told_11 rfl ?_
    refine kk_getR (pc := 12) hX (x := (r (β + 5000 + 20 * t) 10)) fl_X29_15_29 dX29_told_12 hk.k.k0 rfl rfl ?_
    refine kk_gets2 (pc := 15) hX dX29_told_15 q926 ?_
    refine kk_acmp_ne (pc := 18) hX 25 (kk_x12 hk.v.st) ⟨by simp, by simp⟩ dX29_told_18 rfl (fun h18 => ?_) (fun h18 => ?_)
    · refine kk_aload_n (pc := 25) hX dX29_told_25 rfl ?_
      refine kk_getR (pc := 26) hX (x := (r (β + 5000 + 20 * t) 10)) fl_X29_15_29 dX29_told_26 hk.k.k0 rfl rfl ?_
      refine kk_gets3 (pc := 29) hX dX29_told_29 q1237 ?_
      refine kk_acmp_ne (pc := 32) hX 39 (kk_x12 hk.v.st) ⟨by simp, by simp⟩ dX29_told_32 rfl (fun h32 => ?_) (fun h32 => ?_)
      · refine kk_aload_n (pc := 39) hX dX29_told_39 rfl ?_
        refine kk_callV (pc := 40) hX (v_waitsFor X.1 _ _ _ _ h hv ht) dX29_told_40 (lw_V q949 q950 q951 q88 q952) rfl ⟨by decide +kernel, by decide +kernel, by show _ = some (0 : Nat); decide +kernel⟩ ⟨Nat.le_of_ble_eq_true rfl, Nat.le_of_ble_eq_true rfl, Nat.le_of_ble_eq_true rfl, Nat.le_of_ble_eq_true rfl, Nat.le_of_ble_eq_true rfl⟩ (fun q => by cases q) hk.k.k0 jc_29 rfl (jj_keq ?_) jj_kno
        refine kk_ifnull (pc := 43) hX 50 dX29_told_43 rfl (fun h43 => ?_) (fun a43 h43 => ?_)
        · refine kk_iconst (pc := 50) hX (v := 0) dX29_told_50 (by decide) ?_
          refine kk_iret (pc := 51) hX dX29_told_51 hr ⟨Nat.le_refl _, Nat.le_refl _⟩ ?_
          rw [(show m_stand t σ = 0 by unfold m_stand; rw [if_pos (show σ.1 15 t = 0 by rcases hk.v.st with ⟨q, _⟩ | ⟨q, q1, _⟩ | ⟨q, q1, _⟩ | ⟨q, _, q1⟩; exact q; exact absurd q1 h18; exact absurd q1 h32; exact absurd (q1.symm.trans h4) (by decide)), if_pos (cr_tr_n.mp h43)])]
          exact ⟨rfl, rfl, rfl, rfl, rfl⟩
        · refine kk_iconst (pc := 46) hX (v := 1) dX29_told_46 (by decide) ?_
          refine kk_goto (pc := 47) hX 51 dX29_told_47 rfl ?_
          refine kk_iret (pc := 51) hX dX29_told_51 hr ⟨Nat.le_refl _, Nat.le_refl _⟩ ?_
          rw [(show m_stand t σ = 1 by unfold m_stand; rw [if_pos (show σ.1 15 t = 0 by rcases hk.v.st with ⟨q, _⟩ | ⟨q, q1, _⟩ | ⟨q, q1, _⟩ | ⟨q, _, q1⟩; exact q; exact absurd q1 h18; exact absurd q1 h32; exact absurd (q1.symm.trans h4) (by decide)), if_neg (fun z => by rw [cr_tr_n.mpr z] at h43; cases h43)])]
          exact ⟨rfl, rfl, rfl, rfl, rfl⟩
      · refine kk_iconst (pc := 35) hX (v := 3) dX29_told_35 (by decide) ?_
        refine kk_goto (pc := 36) hX 51 dX29_told_36 rfl ?_
        refine kk_iret (pc := 51) hX dX29_told_51 hr ⟨Nat.le_refl _, Nat.le_refl _⟩ ?_
        rw [(show m_stand t σ = 3 by unfold m_stand; have q := (cr_st_3 hk.v.st h4).mp h32; rw [if_neg (by rw [q]; decide)]; exact q)]
        exact ⟨rfl, rfl, rfl, rfl, rfl⟩
    · refine kk_iconst (pc := 21) hX (v := 2) dX29_told_21 (by decide) ?_
      refine kk_goto (pc := 22) hX 51 dX29_told_22 rfl ?_
      refine kk_iret (pc := 51) hX dX29_told_51 hr ⟨Nat.le_refl _, Nat.le_refl _⟩ ?_
      rw [(show m_stand t σ = 2 by unfold m_stand; have q := (cr_st_2 hk.v.st h4).mp h18; rw [if_neg (by rw [q]; decide)]; exact q)]
      exact ⟨rfl, rfl, rfl, rfl, rfl⟩
  · refine kk_iconst (pc := 7) hX (v := 4) dX29_told_7 (by decide) ?_
    refine kk_goto (pc := 8) hX 51 dX29_told_8 rfl ?_
    refine kk_iret (pc := 51) hX dX29_told_51 hr ⟨Nat.le_refl _, Nat.le_refl _⟩ ?_
    rw [(show m_stand t σ = 4 by unfold m_stand; have q := Decidable.of_not_not (fun z => h4 ((cr_st_g hk.v.st).mpr z)); rw [if_neg (by rw [q]; decide)]; exact q)]
    exact ⟨rfl, rfl, rfl, rfl, rfl⟩

theorem v_Tnum (G : jj_G) (τ : jj_T) (I : jj_I) (L : jj_L) (r : jj_R) (th p a b n : Nat) (hth : τ th = some (.inl 29)) (hrp : r th 15 = some p) (hp : τ p = some (.inl 31)) (hra : r p 0 = some a) (hrb : r p 1 = some b) (hka : τ a = some (.inr (2, 12))) (hkb : τ b = some (.inr (4, 12))) (hs : I p 2 = nI n) (hn : 1 ≤ n) (hn9 : n ≤ 12) (hx : r b (n - 1) = none) (w9 : Int32) (hw : nI (n - 1) = w9) : kk_M G yX29_number (ws_ yX29_number cX29_number 1 (some .long)) { frames := 5, cells := 0, slots := 0, locals := 110 } [jR (some th)] false τ I L r (jj_eq (some (jL (L a (n - 1)))) τ (jj_u I p 2 w9) L r) jj_no := by
  refine kk_intro "BranchCells$Task" (by decide) rfl (Nat.le_of_ble_eq_true rfl) ?_
  intro X hG hX hr hN hC hF hAd
  refine kk_aload_n (pc := 0) hX dX29_number_0 rfl ?_
  refine kk_getR (pc := 1) hX (x := some p) fl_X29_41_29 dX29_number_1 hth rfl hrp ?_
  refine kk_aload_n (pc := 4) hX dX29_number_4 rfl ?_
  refine kk_getR (pc := 5) hX (x := some p) fl_X29_41_29 dX29_number_5 hth rfl hrp ?_
  refine kk_callV (pc := 8) hX (v_take X.1 _ _ _ _ p n hp hs hn w9 hw) dX29_number_8 (lw_V q1125 q1075 q1076 q92 q1077) rfl ⟨by decide +kernel, by decide +kernel, by show _ = some (0 : Nat); decide +kernel⟩ ⟨Nat.le_of_ble_eq_true rfl, Nat.le_of_ble_eq_true rfl, Nat.le_of_ble_eq_true rfl, Nat.le_of_ble_eq_true rfl, Nat.le_of_ble_eq_true rfl⟩ (fun q => by cases q) hp jc_31 rfl (jj_keq ?_) jj_kno
  refine kk_callU (pc := 11) hX (owner := "BranchCells$Values") (v_Vnum31 X.1 _ _ _ _ p a b 12 hp hra hrb hka hkb (by decide) (n - 1) (by omega) hx) dX29_number_11 (lw_meth q1083) ⟨q1126, q1079, q1081, q1082, q91, jj_inT q1080 rfl⟩ ⟨by decide +kernel, by decide +kernel, by show _ = some (1 : Nat); decide +kernel⟩ ⟨Nat.le_of_ble_eq_true rfl, Nat.le_of_ble_eq_true rfl, Nat.le_of_ble_eq_true rfl, Nat.le_of_ble_eq_true rfl, Nat.le_of_ble_eq_true rfl⟩ (fun q => by cases q) hp jc_31 rfl (jj_keq ?_) jj_kno
  exact kk_lret (pc := 14) hX dX29_number_14 hr ⟨Nat.le_refl _, Nat.le_refl _⟩ (⟨rfl, rfl, rfl, rfl, rfl⟩)

theorem v_TnumX (G : jj_G) (τ : jj_T) (I : jj_I) (L : jj_L) (r : jj_R) (th p a b n : Nat) (hth : τ th = some (.inl 29)) (hrp : r th 15 = some p) (hp : τ p = some (.inl 31)) (hra : r p 0 = some a) (hrb : r p 1 = some b) (hka : τ a = some (.inr (2, 12))) (hkb : τ b = some (.inr (4, 12))) (hs : I p 2 = nI n) (w : Nat) (hn : 1 ≤ n) (hn9 : n ≤ 12) (hx : r b (n - 1) = some w) (w9 : Int32) (hw : nI (n - 1) = w9) (q : Nat) (hq : τ q = none ∧ ¬ (1 ≤ q ∧ q ≤ 6)) : kk_M G yX29_number (ws_ yX29_number cX29_number 1 (some .long)) { frames := 5, cells := 1, slots := 7, locals := 110 } [jR (some th)] true τ I L r jj_noP (jj_th q (jj_t τ q (.inl 32)) (jj_u (jj_z (jj_u I p 2 w9) q 0) q 6 2) (jj_z L q 0) (jj_u (jj_u (jj_u (jj_u (jj_u (jj_u (jj_u (jj_z r q none) q 0 (some q)) q 1 (some 5)) q 2 (some 6)) q 1 none) q 3 none) q 0 none) q 2 none)) := by
  refine kk_intro "BranchCells$Task" (by decide) rfl (Nat.le_of_ble_eq_true rfl) ?_
  intro X hG hX hr hN hC hF hAd
  refine kk_aload_n (pc := 0) hX dX29_number_0 rfl ?_
  refine kk_getR (pc := 1) hX (x := some p) fl_X29_41_29 dX29_number_1 hth rfl hrp ?_
  refine kk_aload_n (pc := 4) hX dX29_number_4 rfl ?_
  refine kk_getR (pc := 5) hX (x := some p) fl_X29_41_29 dX29_number_5 hth rfl hrp ?_
  refine kk_callV (pc := 8) hX (v_take X.1 _ _ _ _ p n hp hs hn w9 hw) dX29_number_8 (lw_V q1125 q1075 q1076 q92 q1077) rfl ⟨by decide +kernel, by decide +kernel, by show _ = some (0 : Nat); decide +kernel⟩ ⟨Nat.le_of_ble_eq_true rfl, Nat.le_of_ble_eq_true rfl, Nat.le_of_ble_eq_true rfl, Nat.le_of_ble_eq_true rfl, Nat.le_of_ble_eq_true rfl⟩ (fun q => by cases q) hp jc_31 rfl (jj_keq ?_) jj_kno
  refine kk_callU (pc := 11) hX (owner := "BranchCells$Values") (v_VnumX31 X.1 _ _ _ _ p a b 12 hp hra hrb hka hkb (by decide) (n - 1) w (by omega) hx q hq) dX29_number_11 (lw_meth q1083) ⟨q1126, q1079, q1081, q1082, q91, jj_inT q1080 rfl⟩ ⟨by decide +kernel, by decide +kernel, by show _ = some (1 : Nat); decide +kernel⟩ ⟨Nat.le_of_ble_eq_true rfl, Nat.le_of_ble_eq_true rfl, Nat.le_of_ble_eq_true rfl, Nat.le_of_ble_eq_true rfl, Nat.le_of_ble_eq_true rfl⟩ (fun _ => hF rfl) hp jc_31 rfl jj_knp (jj_kth ?_)
  exact kk_out (pc := 11) hX hN ⟨Nat.le_refl _, Nat.le_refl _⟩ (⟨rfl, rfl, rfl, rfl, rfl⟩)

theorem v_Tput (G : jj_G) (τ : jj_T) (I : jj_I) (L : jj_L) (r : jj_R) (th p a b n : Nat) (hth : τ th = some (.inl 29)) (hrp : r th 15 = some p) (hp : τ p = some (.inl 31)) (hra : r p 0 = some a) (hrb : r p 1 = some b) (hka : τ a = some (.inr (2, 12))) (hkb : τ b = some (.inr (4, 12))) (hs : I p 2 = nI n) (v : Int64) (hn : n < 12) (w9 : Int32) (hw : nI (n + 1) = w9) : kk_M G yX29_put (ws_ yX29_put cX29_put 3 none) { frames := 5, cells := 0, slots := 0, locals := 112 } [jR (some th), jL v] false τ I L r (jj_eq none τ (jj_u I p 2 w9) (jj_u L a n v) (jj_u r b n none)) jj_no := by
  refine kk_intro "BranchCells$Task" (by decide) rfl (Nat.le_of_ble_eq_true rfl) ?_
  intro X hG hX hr hN hC hF hAd
  refine kk_aload_n (pc := 0) hX dX29_put_0 rfl ?_
  refine kk_getR (pc := 1) hX (x := some p) fl_X29_41_29 dX29_put_1 hth rfl hrp ?_
  refine kk_lload_n (pc := 4) hX dX29_put_4 rfl ?_
  refine kk_null (pc := 5) hX dX29_put_5 ?_
  refine kk_callV (pc := 6) hX (v_Pput X.1 _ _ _ _ p a b n hp hra hrb hka hkb hs v none hn (fun w z => by cases z) w9 hw) dX29_put_6 (lw_V q1061 q1062 q1063 q92 q1064) rfl ⟨by decide +kernel, by decide +kernel, by show _ = some (2 : Nat); decide +kernel⟩ ⟨Nat.le_of_ble_eq_true rfl, Nat.le_of_ble_eq_true rfl, Nat.le_of_ble_eq_true rfl, Nat.le_of_ble_eq_true rfl, Nat.le_of_ble_eq_true rfl⟩ (fun q => by cases q) hp jc_31 rfl (jj_keq ?_) jj_kno
  exact kk_vret (pc := 9) hX dX29_put_9 hr ⟨Nat.le_refl _, Nat.le_refl _⟩ (⟨rfl, rfl, rfl, rfl, rfl⟩)

theorem v_TputX (G : jj_G) (τ : jj_T) (I : jj_I) (L : jj_L) (r : jj_R) (th p a b n : Nat) (hth : τ th = some (.inl 29)) (hrp : r th 15 = some p) (hp : τ p = some (.inl 31)) (hra : r p 0 = some a) (hrb : r p 1 = some b) (hka : τ a = some (.inr (2, 12))) (hkb : τ b = some (.inr (4, 12))) (hs : I p 2 = nI n) (v : Int64) (hn : n = 12) (q : Nat) (hq : τ q = none ∧ ¬ (1 ≤ q ∧ q ≤ 6)) : kk_M G yX29_put (ws_ yX29_put cX29_put 3 none) { frames := 5, cells := 1, slots := 7, locals := 112 } [jR (some th), jL v] true τ I L r jj_noP (jj_th q (jj_t τ q (.inl 32)) (jj_u (jj_z I q 0) q 6 7) (jj_z L q 0) (jj_u (jj_u (jj_u (jj_u (jj_u (jj_u (jj_u (jj_z r q none) q 0 (some q)) q 1 (some 5)) q 2 (some 6)) q 1 none) q 3 none) q 0 none) q 2 none)) := by
  refine kk_intro "BranchCells$Task" (by decide) rfl (Nat.le_of_ble_eq_true rfl) ?_
  intro X hG hX hr hN hC hF hAd
  refine kk_aload_n (pc := 0) hX dX29_put_0 rfl ?_
  refine kk_getR (pc := 1) hX (x := some p) fl_X29_41_29 dX29_put_1 hth rfl hrp ?_
  refine kk_lload_n (pc := 4) hX dX29_put_4 rfl ?_
  refine kk_null (pc := 5) hX dX29_put_5 ?_
  refine kk_callV (pc := 6) hX (v_PputX X.1 _ _ _ _ p a b n hp hra hrb hka hkb hs v none hn q hq) dX29_put_6 (lw_V q1061 q1062 q1063 q92 q1064) rfl ⟨by decide +kernel, by decide +kernel, by show _ = some (2 : Nat); decide +kernel⟩ ⟨Nat.le_of_ble_eq_true rfl, Nat.le_of_ble_eq_true rfl, Nat.le_of_ble_eq_true rfl, Nat.le_of_ble_eq_true rfl, Nat.le_of_ble_eq_true rfl⟩ (fun _ => hF rfl) hp jc_31 rfl jj_knp (jj_kth ?_)
  exact kk_out (pc := 6) hX hN ⟨Nat.le_refl _, Nat.le_refl _⟩ (⟨rfl, rfl, rfl, rfl, rfl⟩)

theorem v_Ttell (G : jj_G) (τ : jj_T) (I : jj_I) (L : jj_L) (r : jj_R) (th c n : Nat) (hth : τ th = some (.inl 29)) (hrc : r th 16 = some c) (hkc : τ c = some (.inr (2, 60))) (hs : I th 17 = nI n) (v : Int64) (hn : n < 60) (w : Int32) (hw : nI (n + 1) = w) : kk_M G yX29_tells (ws_ yX29_tells cX29_tells 3 none) { frames := 0, cells := 0, slots := 0, locals := 0 } [jR (some th), jL v] false τ I L r (jj_eq none τ (jj_u I th 17 w) (jj_u L c n v) r) jj_no := by
  refine kk_intro "BranchCells$Task" (by decide) rfl (Nat.le_of_ble_eq_true rfl) ?_
  intro X hG hX hr hN hC hF hAd
  refine kk_aload_n (pc := 0) hX dX29_tells_0 rfl ?_
  refine kk_getI (pc := 1) hX fl_X29_121_29 dX29_tells_1 hth rfl ?_
  refine kk_top (nI n) hs ?_
  refine kk_bipush (pc := 4) hX (v := 60) dX29_tells_4 (by decide) ?_
  refine kk_icmp_ge (pc := 6) hX 29 dX29_tells_6 rfl (fun q => absurd q (nI_ge (b := 60) hn (by decide))) (fun _ => ?_)
  refine kk_aload_n (pc := 9) hX dX29_tells_9 rfl ?_
  refine kk_getR (pc := 10) hX (x := some c) fl_X29_45_29 dX29_tells_10 hth rfl hrc ?_
  refine kk_aload_n (pc := 13) hX dX29_tells_13 rfl ?_
  refine kk_getI (pc := 14) hX fl_X29_121_29 dX29_tells_14 hth rfl ?_
  refine kk_top (nI n) hs ?_
  refine kk_lload_n (pc := 17) hX dX29_tells_17 rfl ?_
  refine kk_last (pc := 18) hX n dX29_tells_18 hkc rfl ⟨by omega, by omega⟩ ?_
  refine kk_aload_n (pc := 19) hX dX29_tells_19 rfl ?_
  refine kk_dup (pc := 20) hX dX29_tells_20 rfl ?_
  refine kk_getI (pc := 21) hX fl_X29_121_29 dX29_tells_21 hth rfl ?_
  refine kk_top (nI n) hs ?_
  refine kk_iconst (pc := 24) hX (v := 1) dX29_tells_24 (by decide) ?_
  refine kk_iadd (pc := 25) hX dX29_tells_25 ?_
  refine kk_top (nI (n + 1)) (ix_add rfl rfl) ?_
  refine kk_top w hw ?_
  refine kk_putI (pc := 26) hX fl_X29_121_29 dX29_tells_26 hth rfl rfl ?_
  exact kk_vret (pc := 29) hX dX29_tells_29 hr ⟨Nat.le_refl _, Nat.le_refl _⟩ (⟨rfl, rfl, rfl, rfl, rfl⟩)

theorem v_Ttell9 (G : jj_G) (τ : jj_T) (I : jj_I) (L : jj_L) (r : jj_R) (th n : Nat) (hth : τ th = some (.inl 29)) (hs : I th 17 = nI n) (v : Int64) (hn : 60 ≤ n) (hn9 : n < 1000) : kk_M G yX29_tells (ws_ yX29_tells cX29_tells 3 none) { frames := 0, cells := 0, slots := 0, locals := 0 } [jR (some th), jL v] false τ I L r (jj_eq none τ I L r) jj_no := by
  refine kk_intro "BranchCells$Task" (by decide) rfl (Nat.le_of_ble_eq_true rfl) ?_
  intro X hG hX hr hN hC hF hAd
  refine kk_aload_n (pc := 0) hX dX29_tells_0 rfl ?_
  refine kk_getI (pc := 1) hX fl_X29_121_29 dX29_tells_1 hth rfl ?_
  refine kk_top (nI n) hs ?_
  refine kk_bipush (pc := 4) hX (v := 60) dX29_tells_4 (by decide) ?_
  refine kk_icmp_ge (pc := 6) hX 29 dX29_tells_6 rfl (fun _ => ?_) (fun q => absurd (nI_le (a := 60) hn (by omega)) q)
  exact kk_vret (pc := 29) hX dX29_tells_29 hr ⟨Nat.le_refl _, Nat.le_refl _⟩ (⟨rfl, rfl, rfl, rfl, rfl⟩)

theorem v_Tends (G : jj_G) (τ : jj_T) (I : jj_I) (L : jj_L) (r : jj_R) (th p a b : Nat) (hth : τ th = some (.inl 29)) (hrp : r th 12 = some p) (hp : τ p = some (.inl 30)) (hra : r p 0 = some a) (hrb : r p 1 = some b) (hka : τ a = some (.inr (2, 1))) (hkb : τ b = some (.inr (4, 1))) (v : Int64) (x : Option Nat) (hx : ∀ w, x = some w → τ w = some (.inl 29)) : kk_M G yX29_ends (ws_ yX29_ends cX29_ends 4 none) { frames := 1, cells := 0, slots := 0, locals := 24 } [jR (some th), jL v, jR x] false τ I L r (jj_eq none τ I (jj_u L a 0 v) (jj_u (jj_u r b 0 x) th 10 (some 2))) jj_no := by
  refine kk_intro "BranchCells$Task" (by decide) rfl (Nat.le_of_ble_eq_true rfl) ?_
  intro X hG hX hr hN hC hF hAd
  refine kk_aload_n (pc := 0) hX dX29_ends_0 rfl ?_
  refine kk_getR (pc := 1) hX (x := some p) fl_X29_25_29 dX29_ends_1 hth rfl hrp ?_
  refine kk_iconst (pc := 4) hX (v := 0) dX29_ends_4 (by decide) ?_
  refine kk_lload_n (pc := 5) hX dX29_ends_5 rfl ?_
  refine kk_aload_n (pc := 6) hX dX29_ends_6 rfl ?_
  refine kk_callV (pc := 7) hX (v_Vput30 X.1 _ _ _ _ p a b 1 hp hra hrb hka hkb (by decide) 0 v x (by decide) hx) dX29_ends_7 (lw_V q925 q912 q913 q91 q916) rfl ⟨by decide +kernel, by decide +kernel, by show _ = some (3 : Nat); decide +kernel⟩ ⟨Nat.le_of_ble_eq_true rfl, Nat.le_of_ble_eq_true rfl, Nat.le_of_ble_eq_true rfl, Nat.le_of_ble_eq_true rfl, Nat.le_of_ble_eq_true rfl⟩ (fun q => by cases q) hp jc_30 rfl (jj_keq ?_) jj_kno
  refine kk_aload_n (pc := 10) hX dX29_ends_10 rfl ?_
  refine kk_gets2 (pc := 11) hX dX29_ends_11 q926 ?_
  refine kk_putR (pc := 14) hX fl_X29_15_29 dX29_ends_14 hth rfl ?_
  exact kk_vret (pc := 17) hX dX29_ends_17 hr ⟨Nat.le_refl _, Nat.le_refl _⟩ (⟨rfl, rfl, rfl, rfl, rfl⟩)

theorem v_comesO (G : jj_G) (τ : jj_T) (I : jj_I) (L : jj_L) (r : jj_R) (th : Nat) (hth : τ th = some (.inl 29)) (x : Option Nat) (hx : r th 10 = x) (hx9 : kk_x x) (h0 : ¬ x = some 1) : kk_M G yX29_comes (ws_ yX29_comes cX29_comes 1 none) { frames := 2, cells := 0, slots := 0, locals := 47 } [jR (some th)] false τ I L r (jj_eq none τ I L r) jj_no := by
  refine kk_intro "BranchCells$Task" (by decide) rfl (Nat.le_of_ble_eq_true rfl) ?_
  intro X hG hX hr hN hC hF hAd
  refine kk_aload_n (pc := 0) hX dX29_comes_0 rfl ?_
  refine kk_getR (pc := 1) hX (x := x) fl_X29_15_29 dX29_comes_1 hth rfl hx ?_
  refine kk_gets1 (pc := 4) hX dX29_comes_4 q772 ?_
  refine kk_acmp_ne (pc := 7) hX 30 hx9 ⟨by simp, by simp⟩ dX29_comes_7 rfl (fun _ => ?_) (fun q => absurd q h0)
  exact kk_vret (pc := 30) hX dX29_comes_30 hr ⟨Nat.le_refl _, Nat.le_refl _⟩ (⟨rfl, rfl, rfl, rfl, rfl⟩)

theorem v_comesN (G : jj_G) (τ : jj_T) (I : jj_I) (L : jj_L) (r : jj_R) (th b p n : Nat) (hth : τ th = some (.inl 29)) (hx : r th 10 = some 1) (hrb : r th 5 = some b) (hb : τ b = some (.inl 26)) (hpl : I th 6 = nI p) (hsz : I b 2 = nI n) (hn : n < 1000) (hp9 : p < 1000) (hpn : p < n) : kk_M G yX29_comes (ws_ yX29_comes cX29_comes 1 none) { frames := 2, cells := 0, slots := 0, locals := 47 } [jR (some th)] false τ I L r (jj_eq none τ I L r) jj_no := by
  refine kk_intro "BranchCells$Task" (by decide) rfl (Nat.le_of_ble_eq_true rfl) ?_
  intro X hG hX hr hN hC hF hAd
  refine kk_aload_n (pc := 0) hX dX29_comes_0 rfl ?_
  refine kk_getR (pc := 1) hX (x := some 1) fl_X29_15_29 dX29_comes_1 hth rfl hx ?_
  refine kk_gets1 (pc := 4) hX dX29_comes_4 q772 ?_
  refine kk_acmp_ne (pc := 7) hX 30 ⟨by simp, by simp⟩ ⟨by simp, by simp⟩ dX29_comes_7 rfl (fun q => absurd rfl q) (fun _ => ?_)
  refine kk_aload_n (pc := 10) hX dX29_comes_10 rfl ?_
  refine kk_getI (pc := 11) hX fl_X29_87_29 dX29_comes_11 hth rfl ?_
  refine kk_top (nI p) hpl ?_
  refine kk_aload_n (pc := 14) hX dX29_comes_14 rfl ?_
  refine kk_getR (pc := 15) hX (x := some b) fl_X29_66_29 dX29_comes_15 hth rfl hrb ?_
  refine kk_getI (pc := 18) hX fl_X29_127_26 dX29_comes_18 hb rfl ?_
  refine kk_top (nI n) hsz ?_
  refine kk_icmp_lt (pc := 21) hX 30 dX29_comes_21 rfl (fun _ => ?_) (fun q => absurd (nI_lt hpn (by omega)) q)
  exact kk_vret (pc := 30) hX dX29_comes_30 hr ⟨Nat.le_refl _, Nat.le_refl _⟩ (⟨rfl, rfl, rfl, rfl, rfl⟩)

theorem v_comesE (G : jj_G) (τ : jj_T) (I : jj_I) (L : jj_L) (r : jj_R) (th b p n : Nat) (hth : τ th = some (.inl 29)) (hx : r th 10 = some 1) (hrb : r th 5 = some b) (hb : τ b = some (.inl 26)) (hpl : I th 6 = nI p) (hsz : I b 2 = nI n) (hn : n < 1000) (hp9 : p < 1000) (hpn : n ≤ p) (pr a c : Nat) (hrp : r th 12 = some pr) (hp : τ pr = some (.inl 30)) (hra : r pr 0 = some a) (hrc : r pr 1 = some c) (hka : τ a = some (.inr (2, 1))) (hkc : τ c = some (.inr (4, 1))) : kk_M G yX29_comes (ws_ yX29_comes cX29_comes 1 none) { frames := 2, cells := 0, slots := 0, locals := 47 } [jR (some th)] false τ I L r (jj_eq none τ I (jj_u L a 0 0) (jj_u (jj_u r c 0 none) th 10 (some 2))) jj_no := by
  refine kk_intro "BranchCells$Task" (by decide) rfl (Nat.le_of_ble_eq_true rfl) ?_
  intro X hG hX hr hN hC hF hAd
  refine kk_aload_n (pc := 0) hX dX29_comes_0 rfl ?_
  refine kk_getR (pc := 1) hX (x := some 1) fl_X29_15_29 dX29_comes_1 hth rfl hx ?_
  refine kk_gets1 (pc := 4) hX dX29_comes_4 q772 ?_
  refine kk_acmp_ne (pc := 7) hX 30 ⟨by simp, by simp⟩ ⟨by simp, by simp⟩ dX29_comes_7 rfl (fun q => absurd rfl q) (fun _ => ?_)
  refine kk_aload_n (pc := 10) hX dX29_comes_10 rfl ?_
  refine kk_getI (pc := 11) hX fl_X29_87_29 dX29_comes_11 hth rfl ?_
  refine kk_top (nI p) hpl ?_
  refine kk_aload_n (pc := 14) hX dX29_comes_14 rfl ?_
  refine kk_getR (pc := 15) hX (x := some b) fl_X29_66_29 dX29_comes_15 hth rfl hrb ?_
  refine kk_getI (pc := 18) hX fl_X29_127_26 dX29_comes_18 hb rfl ?_
  refine kk_top (nI n) hsz ?_
  refine kk_icmp_lt (pc := 21) hX 30 dX29_comes_21 rfl (fun q => absurd q (fun z => absurd (Int32.not_le.mpr z) (fun w => w (nI_le hpn (by omega))))) (fun _ => ?_)
  refine kk_aload_n (pc := 24) hX dX29_comes_24 rfl ?_
  refine kk_lconst (pc := 25) hX (v := 0) dX29_comes_25 (by decide) ?_
  refine kk_null (pc := 26) hX dX29_comes_26 ?_
  refine kk_callV (pc := 27) hX (v_Tends X.1 _ _ _ _ th pr a c hth hrp hp hra hrc hka hkc 0 none (fun w z => by cases z)) dX29_comes_27 (lw_V q921 q922 q923 q88 q924) rfl ⟨by decide +kernel, by decide +kernel, by show _ = some (2 : Nat); decide +kernel⟩ ⟨Nat.le_of_ble_eq_true rfl, Nat.le_of_ble_eq_true rfl, Nat.le_of_ble_eq_true rfl, Nat.le_of_ble_eq_true rfl, Nat.le_of_ble_eq_true rfl⟩ (fun q => by cases q) hth jc_29 rfl (jj_keq ?_) jj_kno
  exact kk_vret (pc := 30) hX dX29_comes_30 hr ⟨Nat.le_refl _, Nat.le_refl _⟩ (⟨rfl, rfl, rfl, rfl, rfl⟩)
