set_option maxRecDepth 100000
theorem jb_inc {x : Int32} {n : Nat} (h : jb x n) (hn : n < 2147483647) : jb (x + 1) (n + 1) ∧ nv (x + 1) = nv x + 1 := by
  obtain ⟨h1, h2⟩ := h
  have e : x + 1 = nI (nv x + 1) := by
    have := nI_1 (nv x)
    rw [← h1] at this
    exact this
  have e2 : nv (x + 1) = nv x + 1 := by rw [e]; exact nv_nI (by omega)
  exact ⟨⟨by rw [e2]; exact e, by omega⟩, e2⟩
theorem jb_nI {n m : Nat} (h : n ≤ m) (hm : m < 2147483648) : jb (nI n) m := ⟨by rw [nv_nI (by omega)], by rw [nv_nI (by omega)]; exact h⟩
theorem m_ns_k {b : Int32} {σ : jm} {k j : Nat} (h1 : k ≠ 39) (h2 : k ≠ 38) (h3 : k = 0 → j ≠ 36) : (m_ns b σ).1 k j = σ.1 k j := by
  unfold m_ns
  rw [m_u_1, jj_un (by by_cases h : k = 0; exact Or.inr (h3 h); exact Or.inl h), m_cl_k h1, m_u_1, jj_un (Or.inl h2)]
theorem m_ns_s {b : Int32} {σ : jm} : (m_ns b σ).1 0 36 = σ.1 0 36 + 1 := by
  unfold m_ns
  rw [m_u_1, jj_us]
theorem m_ns_L {b : Int32} {σ : jm} : (m_ns b σ).2 = σ.2 := by
  unfold m_ns
  rw [m_u_2, m_cl_L, m_u_2]
theorem m_f1_k {t : Nat} {σ : jm} {k j : Nat} (h1 : k ≠ 39) (h2 : k ≠ 38) (h3 : k = 0 → j ≠ 36) (h4 : k ≠ 18) (h5 : k ≠ 22) : (m_f1 t σ).1 k j = σ.1 k j := by
  unfold m_f1
  rw [m_u_1, jj_un (Or.inl h5), m_ns_k h1 h2 h3, m_u_1, jj_un (Or.inl h4)]
theorem m_f1_s {t : Nat} {σ : jm} : (m_f1 t σ).1 0 36 = σ.1 0 36 + 1 := by
  unfold m_f1
  rw [m_u_1, jj_un (Or.inl (by decide)), m_ns_s, m_u_1, jj_un (Or.inl (by decide))]
theorem m_nt_pl {ob fr : Int32} {v : Int64} {h on ab : Int32} {σ : jm} {t : Nat} (ht : t ≠ nv (σ.1 0 11)) : (m_nt ob fr v h on ab σ).1 32 t = σ.1 32 t := by
  have key : ∀ σ' : jm, (m_eb (nv (σ.1 0 11)) σ').1 32 t = σ'.1 32 t := by
    intro σ'
    unfold m_eb
    split
    · split
      · rfl
      · rfl
    · rfl
  unfold m_nt
  rw [key, m_u_1, jj_un (Or.inl (by decide)), m_u_1, jj_un (Or.inr ht), m_sl_k (by decide)]
  rfl
/-- a merger that is right, its codes in range -/
def m_mg (o : Nat) (σ : jm) : Prop := jb (σ.1 6 o) 12 ∧ (∀ k, k < nv (σ.1 6 o) → jb (σ.1 7 (12 * o + k)) 10) ∧ m_right o σ = true

theorem w_mergedOf (G : jj_G) (σ : jm) (j : Nat) (b u t : Int64) (hj : j ≤ 6) (hg : 3 ≤ j → m_mg (j - 3) σ) : jm_M G yX25_mergedOf cX25_mergedOf 8 (some .long) 2 54 [jI (nI j), jL b, jL u, jL t] σ ((m_mof j b u t σ).2) (some (jL (m_mof j b u t σ).1)) := by
  refine jj_intro "BranchCellsModel" (by decide) rfl (Nat.le_of_ble_eq_true rfl) ?_
  intro X hG hX hr hN hC hF
  subst hG
  rcases c7 hj with rfl | rfl | rfl | rfl | rfl | rfl | rfl
  · refine jj_iload_n (pc := 0) hX dX25_mergedOf_0 rfl ?_
    refine jj_tabIn (pc := 1) hX 28 dX25_mergedOf_1 (by decide) (by decide) rfl rfl ?_
    refine jj_lload (pc := 28) hX dX25_mergedOf_28 rfl ?_
    exact jj_lret (pc := 30) hX dX25_mergedOf_30 hr ⟨Nat.le_refl _, Nat.le_refl _⟩ (⟨rfl, rfl, rfl, rfl, rfl⟩)
  · refine jj_iload_n (pc := 0) hX dX25_mergedOf_0 rfl ?_
    refine jj_tabIn (pc := 1) hX 31 dX25_mergedOf_1 (by decide) (by decide) rfl rfl ?_
    refine jj_lload (pc := 31) hX dX25_mergedOf_31 rfl ?_
    refine jj_lload (pc := 33) hX dX25_mergedOf_33 rfl ?_
    refine jj_ladd (pc := 35) hX dX25_mergedOf_35 ?_
    refine jj_lload_n (pc := 36) hX dX25_mergedOf_36 rfl ?_
    refine jj_lsub (pc := 37) hX dX25_mergedOf_37 ?_
    exact jj_lret (pc := 38) hX dX25_mergedOf_38 hr ⟨Nat.le_refl _, Nat.le_refl _⟩ (⟨rfl, rfl, rfl, rfl, rfl⟩)
  · refine jj_iload_n (pc := 0) hX dX25_mergedOf_0 rfl ?_
    refine jj_tabIn (pc := 1) hX 39 dX25_mergedOf_1 (by decide) (by decide) rfl rfl ?_
    refine jj_lload (pc := 39) hX dX25_mergedOf_39 rfl ?_
    refine jj_lload (pc := 41) hX dX25_mergedOf_41 rfl ?_
    refine jj_lload_n (pc := 43) hX dX25_mergedOf_43 rfl ?_
    refine jj_ldc2 (pc := 44) hX (v := (-1)) q1616 dX25_mergedOf_44 ?_
    refine jj_lxor (pc := 47) hX dX25_mergedOf_47 ?_
    refine jj_land (pc := 48) hX dX25_mergedOf_48 ?_
    refine jj_lor (pc := 49) hX dX25_mergedOf_49 ?_
    refine jj_lload_n (pc := 50) hX dX25_mergedOf_50 rfl ?_
    refine jj_lload (pc := 51) hX dX25_mergedOf_51 rfl ?_
    refine jj_ldc2 (pc := 53) hX (v := (-1)) q1616 dX25_mergedOf_53 ?_
    refine jj_lxor (pc := 56) hX dX25_mergedOf_56 ?_
    refine jj_land (pc := 57) hX dX25_mergedOf_57 ?_
    refine jj_ldc2 (pc := 58) hX (v := (-1)) q1616 dX25_mergedOf_58 ?_
    refine jj_lxor (pc := 61) hX dX25_mergedOf_61 ?_
    refine jj_land (pc := 62) hX dX25_mergedOf_62 ?_
    exact jj_lret (pc := 63) hX dX25_mergedOf_63 hr ⟨Nat.le_refl _, Nat.le_refl _⟩ (⟨rfl, rfl, rfl, rfl, rfl⟩)
  · refine jj_iload_n (pc := 0) hX dX25_mergedOf_0 rfl ?_
    refine jj_tabOut (pc := 1) hX 64 dX25_mergedOf_1 (Or.inr (by decide)) rfl ?_
    refine jj_aload_n (pc := 64) hX dX25_mergedOf_64 rfl ?_
    refine jj_iload_n (pc := 65) hX dX25_mergedOf_65 rfl ?_
    refine jj_iconst (pc := 66) hX (v := 3) dX25_mergedOf_66 (by decide) ?_
    refine jj_isub (pc := 67) hX dX25_mergedOf_67 ?_
    refine jj_top (nI 0) (by decide) ?_
    refine jj_lload_n (pc := 68) hX dX25_mergedOf_68 rfl ?_
    refine jj_lload (pc := 69) hX dX25_mergedOf_69 rfl ?_
    refine jj_lload (pc := 71) hX dX25_mergedOf_71 rfl ?_
    refine jj_callV (pc := 73) hX (w_told X.1 σ 0 b u t (by decide) (hg (by decide)).1 (hg (by decide)).2.1 (hg (by decide)).2.2) dX25_mergedOf_73 (lw_V q1617 q1619 qs25 q78 q1620) rfl ⟨by decide +kernel, by decide +kernel, by show _ = some (4 : Nat); decide +kernel⟩ ⟨Nat.le_of_ble_eq_true rfl, Nat.le_of_ble_eq_true rfl, Nat.le_of_ble_eq_true rfl, Nat.le_of_ble_eq_true rfl, Nat.le_of_ble_eq_true rfl⟩ (fun q => by cases q) rfl jc_25 rfl (jj_keq ?_) jj_kno
    exact jj_lret (pc := 76) hX dX25_mergedOf_76 hr ⟨Nat.le_refl _, Nat.le_refl _⟩ (⟨rfl, rfl, rfl, rfl, rfl⟩)
  · refine jj_iload_n (pc := 0) hX dX25_mergedOf_0 rfl ?_
    refine jj_tabOut (pc := 1) hX 64 dX25_mergedOf_1 (Or.inr (by decide)) rfl ?_
    refine jj_aload_n (pc := 64) hX dX25_mergedOf_64 rfl ?_
    refine jj_iload_n (pc := 65) hX dX25_mergedOf_65 rfl ?_
    refine jj_iconst (pc := 66) hX (v := 3) dX25_mergedOf_66 (by decide) ?_
    refine jj_isub (pc := 67) hX dX25_mergedOf_67 ?_
    refine jj_top (nI 1) (by decide) ?_
    refine jj_lload_n (pc := 68) hX dX25_mergedOf_68 rfl ?_
    refine jj_lload (pc := 69) hX dX25_mergedOf_69 rfl ?_
    refine jj_lload (pc := 71) hX dX25_mergedOf_71 rfl ?_
    refine jj_callV (pc := 73) hX (w_told X.1 σ 1 b u t (by decide) (hg (by decide)).1 (hg (by decide)).2.1 (hg (by decide)).2.2) dX25_mergedOf_73 (lw_V q1617 q1619 qs25 q78 q1620) rfl ⟨by decide +kernel, by decide +kernel, by show _ = some (4 : Nat); decide +kernel⟩ ⟨Nat.le_of_ble_eq_true rfl, Nat.le_of_ble_eq_true rfl, Nat.le_of_ble_eq_true rfl, Nat.le_of_ble_eq_true rfl, Nat.le_of_ble_eq_true rfl⟩ (fun q => by cases q) rfl jc_25 rfl (jj_keq ?_) jj_kno
    exact jj_lret (pc := 76) hX dX25_mergedOf_76 hr ⟨Nat.le_refl _, Nat.le_refl _⟩ (⟨rfl, rfl, rfl, rfl, rfl⟩)
  · refine jj_iload_n (pc := 0) hX dX25_mergedOf_0 rfl ?_
    refine jj_tabOut (pc := 1) hX 64 dX25_mergedOf_1 (Or.inr (by decide)) rfl ?_
    refine jj_aload_n (pc := 64) hX dX25_mergedOf_64 rfl ?_
    refine jj_iload_n (pc := 65) hX dX25_mergedOf_65 rfl ?_
    refine jj_iconst (pc := 66) hX (v := 3) dX25_mergedOf_66 (by decide) ?_
    refine jj_isub (pc := 67) hX dX25_mergedOf_67 ?_
    refine jj_top (nI 2) (by decide) ?_
    refine jj_lload_n (pc := 68) hX dX25_mergedOf_68 rfl ?_
    refine jj_lload (pc := 69) hX dX25_mergedOf_69 rfl ?_
    refine jj_lload (pc := 71) hX dX25_mergedOf_71 rfl ?_
    refine jj_callV (pc := 73) hX (w_told X.1 σ 2 b u t (by decide) (hg (by decide)).1 (hg (by decide)).2.1 (hg (by decide)).2.2) dX25_mergedOf_73 (lw_V q1617 q1619 qs25 q78 q1620) rfl ⟨by decide +kernel, by decide +kernel, by show _ = some (4 : Nat); decide +kernel⟩ ⟨Nat.le_of_ble_eq_true rfl, Nat.le_of_ble_eq_true rfl, Nat.le_of_ble_eq_true rfl, Nat.le_of_ble_eq_true rfl, Nat.le_of_ble_eq_true rfl⟩ (fun q => by cases q) rfl jc_25 rfl (jj_keq ?_) jj_kno
    exact jj_lret (pc := 76) hX dX25_mergedOf_76 hr ⟨Nat.le_refl _, Nat.le_refl _⟩ (⟨rfl, rfl, rfl, rfl, rfl⟩)
  · refine jj_iload_n (pc := 0) hX dX25_mergedOf_0 rfl ?_
    refine jj_tabOut (pc := 1) hX 64 dX25_mergedOf_1 (Or.inr (by decide)) rfl ?_
    refine jj_aload_n (pc := 64) hX dX25_mergedOf_64 rfl ?_
    refine jj_iload_n (pc := 65) hX dX25_mergedOf_65 rfl ?_
    refine jj_iconst (pc := 66) hX (v := 3) dX25_mergedOf_66 (by decide) ?_
    refine jj_isub (pc := 67) hX dX25_mergedOf_67 ?_
    refine jj_top (nI 3) (by decide) ?_
    refine jj_lload_n (pc := 68) hX dX25_mergedOf_68 rfl ?_
    refine jj_lload (pc := 69) hX dX25_mergedOf_69 rfl ?_
    refine jj_lload (pc := 71) hX dX25_mergedOf_71 rfl ?_
    refine jj_callV (pc := 73) hX (w_told X.1 σ 3 b u t (by decide) (hg (by decide)).1 (hg (by decide)).2.1 (hg (by decide)).2.2) dX25_mergedOf_73 (lw_V q1617 q1619 qs25 q78 q1620) rfl ⟨by decide +kernel, by decide +kernel, by show _ = some (4 : Nat); decide +kernel⟩ ⟨Nat.le_of_ble_eq_true rfl, Nat.le_of_ble_eq_true rfl, Nat.le_of_ble_eq_true rfl, Nat.le_of_ble_eq_true rfl, Nat.le_of_ble_eq_true rfl⟩ (fun q => by cases q) rfl jc_25 rfl (jj_keq ?_) jj_kno
    exact jj_lret (pc := 76) hX dX25_mergedOf_76 hr ⟨Nat.le_refl _, Nat.le_refl _⟩ (⟨rfl, rfl, rfl, rfl, rfl⟩)

theorem w_forkAt (G : jj_G) (σ : jm) (t : Nat) (ob : Int32) (x : Int64) (h : Int32) (ht : t < 85) (hs : jb (σ.1 0 36) 167) (hT : jb (σ.1 0 11) 84) (htT : t < nv (σ.1 0 11)) (hob : jb ob 7) (hp : jb (σ.1 32 t) 11) (hh : j01 h) : jm_M G yX25_forkAt cX25_forkAt 9 none 3 74 [jI (nI t), jI ob, jL x, jI h] σ (m_fork t ob x h σ) none := by
  refine jj_intro "BranchCellsModel" (by decide) rfl (Nat.le_of_ble_eq_true rfl) ?_
  intro X hG hX hr hN hC hF
  subst hG
  have hs1 : jb ((m_u σ 18 t (σ.1 18 t + 1)).1 0 36) 168 := ⟨hs.1, Nat.le_succ_of_le hs.2⟩
  have hs2 : jb ((m_f1 t σ).1 0 36) 168 := by rw [m_f1_s]; exact (jb_inc hs (by decide)).1
  have e11 : (m_ns (σ.1 22 t) (m_f1 t σ)).1 0 11 = σ.1 0 11 := by rw [m_ns_k (by decide) (by decide) (by decide), m_f1_k (by decide) (by decide) (by decide) (by decide) (by decide)]
  have hpl : jb ((m_nt ob (nI t) x h (σ.1 0 36 + 1) (σ.1 22 t) (m_ns (σ.1 22 t) (m_f1 t σ))).1 32 t) 11 := by
    rw [m_nt_pl (by rw [e11]; omega), m_ns_k (by decide) (by decide) (fun q => absurd q (by decide)), m_f1_k (by decide) (by decide) (fun q => absurd q (by decide)) (by decide) (by decide)]; exact hp
  refine jj_aload_n (pc := 0) hX dX25_forkAt_0 rfl ?_
  refine jj_getR (pc := 1) hX (x := some 22) fl_X25_62_25 dX25_forkAt_1 rfl rfl rfl ?_
  refine jj_iload_n (pc := 4) hX dX25_forkAt_4 rfl ?_
  refine jj_iald (pc := 5) hX t dX25_forkAt_5 rfl rfl rfl ⟨by omega, by omega⟩ ?_
  refine jj_istore (pc := 6) hX dX25_forkAt_6 (by decide) ?_
  refine jj_aload_n (pc := 8) hX dX25_forkAt_8 rfl ?_
  refine jj_getR (pc := 9) hX (x := some 18) fl_X25_50_25 dX25_forkAt_9 rfl rfl rfl ?_
  refine jj_iload_n (pc := 12) hX dX25_forkAt_12 rfl ?_
  refine jj_dup2 (pc := 13) hX dX25_forkAt_13 rfl rfl ?_
  refine jj_iald (pc := 14) hX t dX25_forkAt_14 rfl rfl rfl ⟨by omega, by omega⟩ ?_
  refine jj_iconst (pc := 15) hX (v := 1) dX25_forkAt_15 (by decide) ?_
  refine jj_iadd (pc := 16) hX dX25_forkAt_16 ?_
  refine jj_iast (pc := 17) hX t dX25_forkAt_17 rfl rfl ⟨by omega, by omega⟩ ?_
  refine jj_aload_n (pc := 18) hX dX25_forkAt_18 rfl ?_
  refine jj_getR (pc := 19) hX (x := some 22) fl_X25_62_25 dX25_forkAt_19 rfl rfl rfl ?_
  refine jj_iload_n (pc := 22) hX dX25_forkAt_22 rfl ?_
  refine jj_aload_n (pc := 23) hX dX25_forkAt_23 rfl ?_
  refine jj_iload (pc := 24) hX dX25_forkAt_24 rfl ?_
  refine jj_callV (pc := 26) hX (w_newSegment X.1 (m_u σ 18 t (σ.1 18 t + 1)) (σ.1 22 t) hs1) dX25_forkAt_26 (lw_V q1634 q1636 qs26 q78 q1637) rfl ⟨by decide +kernel, by decide +kernel, by show _ = some (1 : Nat); decide +kernel⟩ ⟨Nat.le_of_ble_eq_true rfl, Nat.le_of_ble_eq_true rfl, Nat.le_of_ble_eq_true rfl, Nat.le_of_ble_eq_true rfl, Nat.le_of_ble_eq_true rfl⟩ (fun q => by cases q) rfl jc_25 rfl (jj_keq ?_) jj_kno
  refine jj_iast (pc := 29) hX t dX25_forkAt_29 rfl rfl ⟨by omega, by omega⟩ ?_
  refine jj_mem (m_f1 t σ) (by unfold m_f1; rw [m_u_1]; rfl) (by unfold m_f1; rw [m_u_2]) ?_
  refine jj_aload_n (pc := 30) hX dX25_forkAt_30 rfl ?_
  refine jj_iload (pc := 31) hX dX25_forkAt_31 rfl ?_
  refine jj_callV (pc := 33) hX (w_newSegment X.1 (m_f1 t σ) (σ.1 22 t) hs2) dX25_forkAt_33 (lw_V q1634 q1636 qs26 q78 q1637) rfl ⟨by decide +kernel, by decide +kernel, by show _ = some (1 : Nat); decide +kernel⟩ ⟨Nat.le_of_ble_eq_true rfl, Nat.le_of_ble_eq_true rfl, Nat.le_of_ble_eq_true rfl, Nat.le_of_ble_eq_true rfl, Nat.le_of_ble_eq_true rfl⟩ (fun q => by cases q) rfl jc_25 rfl (jj_keq ?_) jj_kno
  refine jj_top (σ.1 0 36 + 1) m_f1_s ?_
  refine jj_istore (pc := 36) hX dX25_forkAt_36 (by decide) ?_
  refine jj_aload_n (pc := 38) hX dX25_forkAt_38 rfl ?_
  refine jj_getI (pc := 39) hX fl_X25_160_25 dX25_forkAt_39 rfl rfl ?_
  refine jj_top (σ.1 0 11) e11 ?_
  refine jj_istore (pc := 42) hX dX25_forkAt_42 (by decide) ?_
  refine jj_aload_n (pc := 44) hX dX25_forkAt_44 rfl ?_
  refine jj_iload_n (pc := 45) hX dX25_forkAt_45 rfl ?_
  refine jj_iload_n (pc := 46) hX dX25_forkAt_46 rfl ?_
  refine jj_lload_n (pc := 47) hX dX25_forkAt_47 rfl ?_
  refine jj_iload (pc := 48) hX dX25_forkAt_48 rfl ?_
  refine jj_iload (pc := 50) hX dX25_forkAt_50 rfl ?_
  refine jj_iload (pc := 52) hX dX25_forkAt_52 rfl ?_
  refine jj_callV (pc := 54) hX (w_newTask X.1 (m_ns (σ.1 22 t) (m_f1 t σ)) ob (nI t) x h (σ.1 0 36 + 1) (σ.1 22 t) (by rw [e11]; exact hT) hob (by rw [e11]; exact Or.inr ⟨by rw [nv_nI (by omega)], by rw [nv_nI (by omega)]; exact htT⟩) hh) dX25_forkAt_54 (lw_V q1638 q1640 qs27 q78 q1641) rfl ⟨by decide +kernel, by decide +kernel, by show _ = some (6 : Nat); decide +kernel⟩ ⟨Nat.le_of_ble_eq_true rfl, Nat.le_of_ble_eq_true rfl, Nat.le_of_ble_eq_true rfl, Nat.le_of_ble_eq_true rfl, Nat.le_of_ble_eq_true rfl⟩ (fun q => by cases q) rfl jc_25 rfl (jj_keq ?_) jj_kno
  refine jj_aload_n (pc := 57) hX dX25_forkAt_57 rfl ?_
  refine jj_iload_n (pc := 58) hX dX25_forkAt_58 rfl ?_
  refine jj_iload (pc := 59) hX dX25_forkAt_59 rfl ?_
  refine jj_i2l (pc := 61) hX dX25_forkAt_61 ?_
  refine jj_iconst (pc := 62) hX (v := 1) dX25_forkAt_62 (by decide) ?_
  refine jj_callV (pc := 63) hX (w_push X.1 (m_nt ob (nI t) x h (σ.1 0 36 + 1) (σ.1 22 t) (m_ns (σ.1 22 t) (m_f1 t σ))) t _ 1 (by omega) hpl (Or.inr rfl)) dX25_forkAt_63 (lw_V q1693 q1695 qs37 q78 q1696) rfl ⟨by decide +kernel, by decide +kernel, by show _ = some (3 : Nat); decide +kernel⟩ ⟨Nat.le_of_ble_eq_true rfl, Nat.le_of_ble_eq_true rfl, Nat.le_of_ble_eq_true rfl, Nat.le_of_ble_eq_true rfl, Nat.le_of_ble_eq_true rfl⟩ (fun q => by cases q) rfl jc_25 rfl (jj_keq ?_) jj_kno
  exact jj_vret (pc := 66) hX dX25_forkAt_66 hr ⟨Nat.le_refl _, Nat.le_refl _⟩ (⟨rfl, rfl, rfl, rfl, rfl⟩)
