set_option maxRecDepth 100000
theorem m_inv.eh {σ0 σ : jm} (h : m_inv σ0) (he : m_eh σ0 σ) (hb : ∀ j, j01 (σ.1 41 j)) : m_inv σ := by
  have e0 : ∀ j, σ.1 0 j = σ0.1 0 j := fun j => he.1 0 j (by decide)
  have e2 : ∀ j, σ.1 2 j = σ0.1 2 j := fun j => he.1 2 j (by decide)
  have e3 : ∀ j, σ.1 3 j = σ0.1 3 j := fun j => he.1 3 j (by decide)
  have e4 : ∀ j, σ.1 4 j = σ0.1 4 j := fun j => he.1 4 j (by decide)
  have e6 : ∀ j, σ.1 6 j = σ0.1 6 j := fun j => he.1 6 j (by decide)
  have e7 : ∀ j, σ.1 7 j = σ0.1 7 j := fun j => he.1 7 j (by decide)
  have e8 : ∀ j, σ.1 8 j = σ0.1 8 j := fun j => he.1 8 j (by decide)
  have e9 : ∀ j, σ.1 9 j = σ0.1 9 j := fun j => he.1 9 j (by decide)
  have e13 : ∀ j, σ.1 13 j = σ0.1 13 j := fun j => he.1 13 j (by decide)
  have e14 : ∀ j, σ.1 14 j = σ0.1 14 j := fun j => he.1 14 j (by decide)
  have e15 : ∀ j, σ.1 15 j = σ0.1 15 j := fun j => he.1 15 j (by decide)
  have e16 : ∀ j, σ.1 16 j = σ0.1 16 j := fun j => he.1 16 j (by decide)
  have e17 : ∀ j, σ.1 17 j = σ0.1 17 j := fun j => he.1 17 j (by decide)
  have e18 : ∀ j, σ.1 18 j = σ0.1 18 j := fun j => he.1 18 j (by decide)
  have e19 : ∀ j, σ.1 19 j = σ0.1 19 j := fun j => he.1 19 j (by decide)
  have e20 : ∀ j, σ.1 20 j = σ0.1 20 j := fun j => he.1 20 j (by decide)
  have e21 : ∀ j, σ.1 21 j = σ0.1 21 j := fun j => he.1 21 j (by decide)
  have e22 : ∀ j, σ.1 22 j = σ0.1 22 j := fun j => he.1 22 j (by decide)
  have e23 : ∀ j, σ.1 23 j = σ0.1 23 j := fun j => he.1 23 j (by decide)
  have e25 : ∀ j, σ.1 25 j = σ0.1 25 j := fun j => he.1 25 j (by decide)
  have e27 : ∀ j, σ.1 27 j = σ0.1 27 j := fun j => he.1 27 j (by decide)
  have e29 : ∀ j, σ.1 29 j = σ0.1 29 j := fun j => he.1 29 j (by decide)
  have e31 : ∀ j, σ.1 31 j = σ0.1 31 j := fun j => he.1 31 j (by decide)
  have e32 : ∀ j, σ.1 32 j = σ0.1 32 j := fun j => he.1 32 j (by decide)
  have e34 : ∀ j, σ.1 34 j = σ0.1 34 j := fun j => he.1 34 j (by decide)
  have e38 : ∀ j, σ.1 38 j = σ0.1 38 j := fun j => he.1 38 j (by decide)
  have e39 : ∀ j, σ.1 39 j = σ0.1 39 j := fun j => he.1 39 j (by decide)
  have eL : σ.2 = σ0.2 := he.2
  have hrc : ∀ (rt : Int32) (n : Nat) (s : Int32), m_rc σ rt n s = m_rc σ0 rt n s := by
    intro rt n
    induction n with
    | zero => intro s; rfl
    | succ n ih => intro s; unfold m_rc; rw [ih, e38]
  have hcap : ∀ n, m_cap σ n = m_cap σ0 n := by
    intro n
    induction n with
    | zero => rfl
    | succ n ih => unfold m_cap; rw [ih, e18, e19]
  have hlv : ∀ t i, m_lv σ t i = m_lv σ0 t i := by
    intro t i
    unfold m_lv
    simp only [e0, e2, e3, e4, e6, e7, e8, e9, e13, e14, e15, e16, e17, e18, e19, e20, e21, e22, e23, e25, e27, e29, e31, e32, e34, e38, e39, eL]
  have hhv : ∀ v, m_hv σ v = m_hv σ0 v := by
    intro v
    unfold m_hv
    rw [e0]
  have hri : ∀ q, m_right q σ = m_right q σ0 := by
    intro q
    unfold m_right
    simp only [e7, e6]
  have g := h
  have gb := h.bo
  unfold m_inv m_lin m_t1 at h ⊢
  simp only [e0, e2, e3, e4, e6, e7, e8, e9, e13, e14, e15, e16, e17, e18, e19, e20, e21, e22, e23, e25, e27, e29, e31, e32, e34, e38, e39, eL, hrc, hcap, hlv, hhv, hri]
  refine ⟨h.1, h.2.1, h.2.2.1, h.2.2.2.1, h.2.2.2.2.1, h.2.2.2.2.2.1, h.2.2.2.2.2.2.1, h.2.2.2.2.2.2.2.1, fun j => ⟨(gb j).1, (gb j).2.1, (gb j).2.2.1, (gb j).2.2.2.1, (gb j).2.2.2.2.1, hb j⟩, h.2.2.2.2.2.2.2.2.2⟩
theorem m_h0_b : ∀ (n s : Nat) (σ : jm), (∀ j, j01 (σ.1 41 j)) → ∀ j, j01 ((m_h0 n s σ).1 41 j)
  | 0, _, _, h => h
  | n + 1, s, σ, h => m_h0_b n (s + 1) _ (fun j => by
    rw [m_u_1]; unfold jj_u; split
    · exact Or.inl rfl
    · exact h j)
theorem m_hs_b : ∀ (n : Nat) (s : Int32) (σ : jm), (∀ j, j01 (σ.1 41 j)) → ∀ j, j01 ((m_hs n s σ).1 41 j) := by
  intro n
  induction n with
  | zero => intro s σ h; exact h
  | succ n ih =>
    intro s σ h
    unfold m_hs
    split
    · exact h
    · exact ih _ _ (fun j => by
        rw [m_u_1]; unfold jj_u; split
        · exact Or.inr rfl
        · exact h j)
theorem m_h1_b : ∀ (n t : Nat) (σ : jm), (∀ j, j01 (σ.1 41 j)) → ∀ j, j01 ((m_h1 n t σ).1 41 j)
  | 0, _, _, h => h
  | n + 1, t, _, h => m_h1_b n (t + 1) _ (m_hs_b 170 _ _ h)
theorem m_inv.hold {σ : jm} (h : m_inv σ) : m_inv (m_hold σ) := h.eh (m_hold_e σ) (m_h1_b _ _ _ (m_h0_b _ _ _ (fun j => (h.bo j).2.2.2.2.2)))
theorem m_hold_k (σ : jm) {k j : Nat} (h : k ≠ 41) : (m_hold σ).1 k j = σ.1 k j := (m_hold_e σ).1 k j h
def m_vc (σ : jm) : Nat → Nat → Nat → Nat
  | 0, _, c => c
  | n + 1, k, c => m_vc σ n (k + 1) (if σ.1 41 (k / 16) = 0 then c else if σ.1 39 k = 0 then c else c + 1)
def m_vers (σ : jm) : Nat := m_vc σ (16 * nv (σ.1 0 36)) 0 0
def m_g1 (σ : jm) (s : Int32) : Nat → Nat → Bool
  | 0, _ => false
  | n + 1, t => if σ.1 15 t = 4 then m_g1 σ s n (t + 1) else if σ.1 22 t = s then true else if σ.1 23 t = s then true else m_g1 σ s n (t + 1)
def m_g2 (σ : jm) (s : Int32) : Nat → Nat → Int32 → Int32
  | 0, _, ab => ab
  | n + 1, k, ab => if σ.1 41 k = 0 then m_g2 σ s n (k + 1) ab else if σ.1 38 k = s then (if ab = -4 then m_g2 σ s n (k + 1) (nI k) else -4) else m_g2 σ s n (k + 1) ab
def m_goes (σ : jm) (s : Int32) : Int32 := if m_g1 σ s (nv (σ.1 0 11)) 0 = true then -4 else m_g2 σ s (nv (σ.1 0 36)) 0 (-4)

theorem w_vers_l {X : jj_X} (hX : jj_ok X cX25_versions "BranchCellsModel" 3 1 22 0 0) (hr : jj_Ret X (some .int)) (σ : jm) (hv : m_inv σ) : ∀ (n k c : Nat), k + n = 16 * nv (σ.1 0 36) → jj_J X (jj_End X (jj_eq (some (jI (nI (m_vc σ n k c)))) jm_T σ.1 σ.2 jm_R) jj_no 0 0) 0 0 8 [(0, jR (some 0)), (1, jI (nI c)), (2, jI (nI k))] [] jm_T σ.1 σ.2 jm_R := by
  have hS := hv.S
  intro n
  induction n with
  | zero =>
    intro k c hn
    have e9 : (16 : Int32) * σ.1 0 36 = nI (16 * nv (σ.1 0 36)) := (congrArg ((16 : Int32) * ·) hv.ts.2.1).trans (pk_mul 16 _)
    have h9 : (16 : Int32) * σ.1 0 36 ≤ nI k := by rw [e9]; exact nI_le (by omega) (by omega)
    unfold m_vc
    refine jj_iload_n (pc := 8) hX dX25_versions_8 rfl ?_
    refine jj_bipush (pc := 9) hX (v := 16) dX25_versions_9 (by decide) ?_
    refine jj_aload_n (pc := 11) hX dX25_versions_11 rfl ?_
    refine jj_getI (pc := 12) hX fl_X25_157_25 dX25_versions_12 rfl rfl ?_
    refine jj_imul (pc := 15) hX dX25_versions_15 ?_
    refine jj_icmp_ge (pc := 16) hX 54 dX25_versions_16 rfl (fun _ => ?_) (fun q => absurd h9 q)
    refine jj_iload_n (pc := 54) hX dX25_versions_54 rfl ?_
    exact jj_iret (pc := 55) hX dX25_versions_55 hr ⟨Nat.le_refl _, Nat.le_refl _⟩ (⟨rfl, rfl, rfl, rfl, rfl⟩)
  | succ n ih =>
    intro k c hn
    have e9 : (16 : Int32) * σ.1 0 36 = nI (16 * nv (σ.1 0 36)) := (congrArg ((16 : Int32) * ·) hv.ts.2.1).trans (pk_mul 16 _)
    have h9 : ¬ (16 : Int32) * σ.1 0 36 ≤ nI k := by rw [e9]; exact nI_ge (by omega) (by omega)
    unfold m_vc
    refine jj_iload_n (pc := 8) hX dX25_versions_8 rfl ?_
    refine jj_bipush (pc := 9) hX (v := 16) dX25_versions_9 (by decide) ?_
    refine jj_aload_n (pc := 11) hX dX25_versions_11 rfl ?_
    refine jj_getI (pc := 12) hX fl_X25_157_25 dX25_versions_12 rfl rfl ?_
    refine jj_imul (pc := 15) hX dX25_versions_15 ?_
    refine jj_icmp_ge (pc := 16) hX 54 dX25_versions_16 rfl (fun q => absurd q h9) (fun _ => ?_)
    refine jj_iload_n (pc := 19) hX dX25_versions_19 rfl ?_
    refine jj_aload_n (pc := 20) hX dX25_versions_20 rfl ?_
    refine jj_getR (pc := 21) hX (x := some 41) fl_X25_111_25 dX25_versions_21 rfl rfl rfl ?_
    refine jj_iload_n (pc := 24) hX dX25_versions_24 rfl ?_
    refine jj_bipush (pc := 25) hX (v := 16) dX25_versions_25 (by decide) ?_
    refine jj_idiv (pc := 27) hX dX25_versions_27 (by decide) ?_
    refine jj_top (nI (k / 16)) (pk_div (by omega) (by decide) (by decide)) ?_
    refine jj_zald (pc := 28) hX (k / 16) dX25_versions_28 rfl rfl rfl ⟨by omega, by omega⟩ ?_
    refine jj_if_eq (pc := 29) hX 45 dX25_versions_29 rfl (fun h29 => ?_) (fun h29 => ?_)
    · refine jj_iconst (pc := 45) hX (v := 0) dX25_versions_45 (by decide) ?_
      refine jj_iadd (pc := 46) hX dX25_versions_46 ?_
      refine jj_top (nI c) (nI_add c 0) ?_
      refine jj_istore_n (pc := 47) hX dX25_versions_47 (by decide) ?_
      refine jj_iinc (pc := 48) hX (v := nI (k + 1)) dX25_versions_48 rfl (ix_inc rfl) (by decide) ?_
      refine jj_goto (pc := 51) hX 8 dX25_versions_51 rfl ?_
      have e8 : (if σ.1 41 (k / 16) = 0 then c else if σ.1 39 k = 0 then c else c + 1) = c := by rw [if_pos h29]
      rw [e8]
      refine jj_ls [(0, jR (some 0)), (1, jI (nI c)), (2, jI (nI (k + 1)))] ⟨rfl, rfl, rfl, trivial⟩ ?_
      exact ih (k + 1) c (by omega)
    · refine jj_aload_n (pc := 32) hX dX25_versions_32 rfl ?_
      refine jj_getR (pc := 33) hX (x := some 39) fl_X25_105_25 dX25_versions_33 rfl rfl rfl ?_
      refine jj_iload_n (pc := 36) hX dX25_versions_36 rfl ?_
      refine jj_zald (pc := 37) hX k dX25_versions_37 rfl rfl rfl ⟨by omega, by omega⟩ ?_
      refine jj_if_eq (pc := 38) hX 45 dX25_versions_38 rfl (fun h38 => ?_) (fun h38 => ?_)
      · refine jj_iconst (pc := 45) hX (v := 0) dX25_versions_45 (by decide) ?_
        refine jj_iadd (pc := 46) hX dX25_versions_46 ?_
        refine jj_top (nI c) (nI_add c 0) ?_
        refine jj_istore_n (pc := 47) hX dX25_versions_47 (by decide) ?_
        refine jj_iinc (pc := 48) hX (v := nI (k + 1)) dX25_versions_48 rfl (ix_inc rfl) (by decide) ?_
        refine jj_goto (pc := 51) hX 8 dX25_versions_51 rfl ?_
        have e8 : (if σ.1 41 (k / 16) = 0 then c else if σ.1 39 k = 0 then c else c + 1) = c := by rw [if_neg h29, if_pos h38]
        rw [e8]
        refine jj_ls [(0, jR (some 0)), (1, jI (nI c)), (2, jI (nI (k + 1)))] ⟨rfl, rfl, rfl, trivial⟩ ?_
        exact ih (k + 1) c (by omega)
      · refine jj_iconst (pc := 41) hX (v := 1) dX25_versions_41 (by decide) ?_
        refine jj_goto (pc := 42) hX 46 dX25_versions_42 rfl ?_
        refine jj_iadd (pc := 46) hX dX25_versions_46 ?_
        refine jj_top (nI (c + 1)) (nI_add c 1) ?_
        refine jj_istore_n (pc := 47) hX dX25_versions_47 (by decide) ?_
        refine jj_iinc (pc := 48) hX (v := nI (k + 1)) dX25_versions_48 rfl (ix_inc rfl) (by decide) ?_
        refine jj_goto (pc := 51) hX 8 dX25_versions_51 rfl ?_
        have e8 : (if σ.1 41 (k / 16) = 0 then c else if σ.1 39 k = 0 then c else c + 1) = (c + 1) := by rw [if_neg h29, if_neg h38]
        rw [e8]
        refine jj_ls [(0, jR (some 0)), (1, jI (nI (c + 1))), (2, jI (nI (k + 1)))] ⟨rfl, rfl, rfl, trivial⟩ ?_
        exact ih (k + 1) (c + 1) (by omega)

theorem w_versions (G : jj_G) (σ : jm) (hv : m_inv σ) : jm_M G yX25_versions cX25_versions 3 (some .int) 1 22 [] σ (m_hold σ) (some (jI (nI (m_vers (m_hold σ))))) := by
  refine jj_intro "BranchCellsModel" (by decide) rfl (Nat.le_of_ble_eq_true rfl) ?_
  intro X hG hX hr hN hC hF
  subst hG
  refine jj_aload_n (pc := 0) hX dX25_versions_0 rfl ?_
  refine jj_callV (pc := 1) hX (w_hold X.1 σ hv) dX25_versions_1 (lw_V q1771 q1773 qs46 q78 q1774) rfl ⟨by decide +kernel, by decide +kernel, by show _ = some (0 : Nat); decide +kernel⟩ ⟨Nat.le_of_ble_eq_true rfl, Nat.le_of_ble_eq_true rfl, Nat.le_of_ble_eq_true rfl, Nat.le_of_ble_eq_true rfl, Nat.le_of_ble_eq_true rfl⟩ (fun q => by cases q) rfl jc_25 rfl (jj_keq ?_) jj_kno
  refine jj_iconst (pc := 4) hX (v := 0) dX25_versions_4 (by decide) ?_
  refine jj_istore_n (pc := 5) hX dX25_versions_5 (by decide) ?_
  refine jj_iconst (pc := 6) hX (v := 0) dX25_versions_6 (by decide) ?_
  refine jj_istore_n (pc := 7) hX dX25_versions_7 (by decide) ?_
  refine jj_ls [(0, jR (some 0)), (1, jI (nI 0)), (2, jI (nI 0))] ⟨rfl, rfl, rfl, trivial⟩ ?_
  exact w_vers_l hX hr (m_hold σ) hv.hold (16 * nv ((m_hold σ).1 0 36)) 0 0 (Nat.zero_add _)

theorem w_goes_2 {X : jj_X} (hX : jj_ok X cX25_goesTo "BranchCellsModel" 4 0 0 0 0) (hr : jj_Ret X (some .int)) (σ : jm) (hv : m_inv σ) (s : Int32) : ∀ (n k : Nat) (ab : Int32), k + n = nv (σ.1 0 36) → jj_J X (jj_End X (jj_eq (some (jI (m_g2 σ s n k ab))) jm_T σ.1 σ.2 jm_R) jj_no 0 0) 0 0 54 [(0, jR (some 0)), (1, jI s), (2, jI ab), (3, jI (nI k))] [] jm_T σ.1 σ.2 jm_R := by
  have hS := hv.S
  intro n
  induction n with
  | zero =>
    intro k ab hn
    have h9 : σ.1 0 36 ≤ nI k := by rw [hv.ts.2.1]; exact nI_le (by omega) (by omega)
    unfold m_g2
    refine jj_iload_n (pc := 54) hX dX25_goesTo_54 rfl ?_
    refine jj_aload_n (pc := 55) hX dX25_goesTo_55 rfl ?_
    refine jj_getI (pc := 56) hX fl_X25_157_25 dX25_goesTo_56 rfl rfl ?_
    refine jj_icmp_ge (pc := 59) hX 98 dX25_goesTo_59 rfl (fun _ => ?_) (fun q => absurd h9 q)
    refine jj_iload_n (pc := 98) hX dX25_goesTo_98 rfl ?_
    exact jj_iret (pc := 99) hX dX25_goesTo_99 hr ⟨Nat.le_refl _, Nat.le_refl _⟩ (⟨rfl, rfl, rfl, rfl, rfl⟩)
  | succ n ih =>
    intro k ab hn
    have h9 : ¬ σ.1 0 36 ≤ nI k := by rw [hv.ts.2.1]; exact nI_ge (by omega) (by omega)
    unfold m_g2
    refine jj_iload_n (pc := 54) hX dX25_goesTo_54 rfl ?_
    refine jj_aload_n (pc := 55) hX dX25_goesTo_55 rfl ?_
    refine jj_getI (pc := 56) hX fl_X25_157_25 dX25_goesTo_56 rfl rfl ?_
    refine jj_icmp_ge (pc := 59) hX 98 dX25_goesTo_59 rfl (fun q => absurd q h9) (fun _ => ?_)
    refine jj_aload_n (pc := 62) hX dX25_goesTo_62 rfl ?_
    refine jj_getR (pc := 63) hX (x := some 41) fl_X25_111_25 dX25_goesTo_63 rfl rfl rfl ?_
    refine jj_iload_n (pc := 66) hX dX25_goesTo_66 rfl ?_
    refine jj_zald (pc := 67) hX k dX25_goesTo_67 rfl rfl rfl ⟨by omega, by omega⟩ ?_
    refine jj_if_eq (pc := 68) hX 92 dX25_goesTo_68 rfl (fun h68 => ?_) (fun h68 => ?_)
    · refine jj_iinc (pc := 92) hX (v := nI (k + 1)) dX25_goesTo_92 rfl (ix_inc rfl) (by decide) ?_
      refine jj_goto (pc := 95) hX 54 dX25_goesTo_95 rfl ?_
      rw [if_pos h68]
      refine jj_ls [(0, jR (some 0)), (1, jI s), (2, jI ab), (3, jI (nI (k + 1)))] ⟨rfl, rfl, rfl, rfl, trivial⟩ ?_
      exact ih (k + 1) ab (by omega)
    · refine jj_aload_n (pc := 71) hX dX25_goesTo_71 rfl ?_
      refine jj_getR (pc := 72) hX (x := some 38) fl_X25_102_25 dX25_goesTo_72 rfl rfl rfl ?_
      refine jj_iload_n (pc := 75) hX dX25_goesTo_75 rfl ?_
      refine jj_iald (pc := 76) hX k dX25_goesTo_76 rfl rfl rfl ⟨by omega, by omega⟩ ?_
      refine jj_iload_n (pc := 77) hX dX25_goesTo_77 rfl ?_
      refine jj_icmp_ne (pc := 78) hX 92 dX25_goesTo_78 rfl (fun h78 => ?_) (fun h78 => ?_)
      · refine jj_iinc (pc := 92) hX (v := nI (k + 1)) dX25_goesTo_92 rfl (ix_inc rfl) (by decide) ?_
        refine jj_goto (pc := 95) hX 54 dX25_goesTo_95 rfl ?_
        rw [if_neg h68, if_neg h78]
        refine jj_ls [(0, jR (some 0)), (1, jI s), (2, jI ab), (3, jI (nI (k + 1)))] ⟨rfl, rfl, rfl, rfl, trivial⟩ ?_
        exact ih (k + 1) ab (by omega)
      · refine jj_iload_n (pc := 81) hX dX25_goesTo_81 rfl ?_
        refine jj_bipush (pc := 82) hX (v := (-4)) dX25_goesTo_82 (by decide) ?_
        refine jj_icmp_eq (pc := 84) hX 90 dX25_goesTo_84 rfl (fun h84 => ?_) (fun h84 => ?_)
        · refine jj_iload_n (pc := 90) hX dX25_goesTo_90 rfl ?_
          refine jj_istore_n (pc := 91) hX dX25_goesTo_91 (by decide) ?_
          refine jj_iinc (pc := 92) hX (v := nI (k + 1)) dX25_goesTo_92 rfl (ix_inc rfl) (by decide) ?_
          refine jj_goto (pc := 95) hX 54 dX25_goesTo_95 rfl ?_
          rw [if_neg h68, if_pos h78, if_pos h84]
          refine jj_ls [(0, jR (some 0)), (1, jI s), (2, jI (nI k)), (3, jI (nI (k + 1)))] ⟨rfl, rfl, rfl, rfl, trivial⟩ ?_
          exact ih (k + 1) (nI k) (by omega)
        · refine jj_bipush (pc := 87) hX (v := (-4)) dX25_goesTo_87 (by decide) ?_
          refine jj_iret (pc := 89) hX dX25_goesTo_89 hr ⟨Nat.le_refl _, Nat.le_refl _⟩ ?_
          rw [if_neg h68, if_pos h78, if_neg h84]
          exact ⟨rfl, rfl, rfl, rfl, rfl⟩

theorem w_goes_1 {X : jj_X} (hX : jj_ok X cX25_goesTo "BranchCellsModel" 4 0 0 0 0) (hr : jj_Ret X (some .int)) (σ : jm) (hv : m_inv σ) (s : Int32) : ∀ (n t : Nat), t + n = nv (σ.1 0 11) → jj_J X (jj_End X (jj_eq (some (jI (if m_g1 σ s n t = true then -4 else m_g2 σ s (nv (σ.1 0 36)) 0 (-4)))) jm_T σ.1 σ.2 jm_R) jj_no 0 0) 0 0 2 [(0, jR (some 0)), (1, jI s), (2, jI (nI t))] [] jm_T σ.1 σ.2 jm_R := by
  have hT := hv.T
  intro n
  induction n with
  | zero =>
    intro t hn
    have h9 : σ.1 0 11 ≤ nI t := by rw [hv.ts.1]; exact nI_le (by omega) (by omega)
    unfold m_g1
    refine jj_iload_n (pc := 2) hX dX25_goesTo_2 rfl ?_
    refine jj_aload_n (pc := 3) hX dX25_goesTo_3 rfl ?_
    refine jj_getI (pc := 4) hX fl_X25_160_25 dX25_goesTo_4 rfl rfl ?_
    refine jj_icmp_ge (pc := 7) hX 49 dX25_goesTo_7 rfl (fun _ => ?_) (fun q => absurd h9 q)
    refine jj_bipush (pc := 49) hX (v := (-4)) dX25_goesTo_49 (by decide) ?_
    refine jj_istore_n (pc := 51) hX dX25_goesTo_51 (by decide) ?_
    refine jj_iconst (pc := 52) hX (v := 0) dX25_goesTo_52 (by decide) ?_
    refine jj_istore_n (pc := 53) hX dX25_goesTo_53 (by decide) ?_
    rw [if_neg (by decide)]
    refine jj_ls [(0, jR (some 0)), (1, jI s), (2, jI (-4)), (3, jI (nI 0))] ⟨rfl, rfl, rfl, rfl, trivial⟩ ?_
    exact w_goes_2 hX hr σ hv s (nv (σ.1 0 36)) 0 (-4) (Nat.zero_add _)
  | succ n ih =>
    intro t hn
    have h9 : ¬ σ.1 0 11 ≤ nI t := by rw [hv.ts.1]; exact nI_ge (by omega) (by omega)
    unfold m_g1
    refine jj_iload_n (pc := 2) hX dX25_goesTo_2 rfl ?_
    refine jj_aload_n (pc := 3) hX dX25_goesTo_3 rfl ?_
    refine jj_getI (pc := 4) hX fl_X25_160_25 dX25_goesTo_4 rfl rfl ?_
    refine jj_icmp_ge (pc := 7) hX 49 dX25_goesTo_7 rfl (fun q => absurd q h9) (fun _ => ?_)
    refine jj_aload_n (pc := 10) hX dX25_goesTo_10 rfl ?_
    refine jj_getR (pc := 11) hX (x := some 15) fl_X25_41_25 dX25_goesTo_11 rfl rfl rfl ?_
    refine jj_iload_n (pc := 14) hX dX25_goesTo_14 rfl ?_
    refine jj_iald (pc := 15) hX t dX25_goesTo_15 rfl rfl rfl ⟨by omega, by omega⟩ ?_
    refine jj_iconst (pc := 16) hX (v := 4) dX25_goesTo_16 (by decide) ?_
    refine jj_icmp_eq (pc := 17) hX 43 dX25_goesTo_17 rfl (fun h17 => ?_) (fun h17 => ?_)
    · refine jj_iinc (pc := 43) hX (v := nI (t + 1)) dX25_goesTo_43 rfl (ix_inc rfl) (by decide) ?_
      refine jj_goto (pc := 46) hX 2 dX25_goesTo_46 rfl ?_
      rw [if_pos h17]
      refine jj_ls [(0, jR (some 0)), (1, jI s), (2, jI (nI (t + 1)))] ⟨rfl, rfl, rfl, trivial⟩ ?_
      exact ih (t + 1) (by omega)
    · refine jj_aload_n (pc := 20) hX dX25_goesTo_20 rfl ?_
      refine jj_getR (pc := 21) hX (x := some 22) fl_X25_62_25 dX25_goesTo_21 rfl rfl rfl ?_
      refine jj_iload_n (pc := 24) hX dX25_goesTo_24 rfl ?_
      refine jj_iald (pc := 25) hX t dX25_goesTo_25 rfl rfl rfl ⟨by omega, by omega⟩ ?_
      refine jj_iload_n (pc := 26) hX dX25_goesTo_26 rfl ?_
      refine jj_icmp_eq (pc := 27) hX 40 dX25_goesTo_27 rfl (fun h27 => ?_) (fun h27 => ?_)
      · refine jj_bipush (pc := 40) hX (v := (-4)) dX25_goesTo_40 (by decide) ?_
        refine jj_iret (pc := 42) hX dX25_goesTo_42 hr ⟨Nat.le_refl _, Nat.le_refl _⟩ ?_
        rw [if_neg h17, if_pos h27, if_pos rfl]
        exact ⟨rfl, rfl, rfl, rfl, rfl⟩
      · refine jj_aload_n (pc := 30) hX dX25_goesTo_30 rfl ?_
        refine jj_getR (pc := 31) hX (x := some 23) fl_X25_65_25 dX25_goesTo_31 rfl rfl rfl ?_
        refine jj_iload_n (pc := 34) hX dX25_goesTo_34 rfl ?_
        refine jj_iald (pc := 35) hX t dX25_goesTo_35 rfl rfl rfl ⟨by omega, by omega⟩ ?_
        refine jj_iload_n (pc := 36) hX dX25_goesTo_36 rfl ?_
        refine jj_icmp_ne (pc := 37) hX 43 dX25_goesTo_37 rfl (fun h37 => ?_) (fun h37 => ?_)
        · refine jj_iinc (pc := 43) hX (v := nI (t + 1)) dX25_goesTo_43 rfl (ix_inc rfl) (by decide) ?_
          refine jj_goto (pc := 46) hX 2 dX25_goesTo_46 rfl ?_
          rw [if_neg h17, if_neg h27, if_neg h37]
          refine jj_ls [(0, jR (some 0)), (1, jI s), (2, jI (nI (t + 1)))] ⟨rfl, rfl, rfl, trivial⟩ ?_
          exact ih (t + 1) (by omega)
        · refine jj_bipush (pc := 40) hX (v := (-4)) dX25_goesTo_40 (by decide) ?_
          refine jj_iret (pc := 42) hX dX25_goesTo_42 hr ⟨Nat.le_refl _, Nat.le_refl _⟩ ?_
          rw [if_neg h17, if_neg h27, if_pos h37, if_pos rfl]
          exact ⟨rfl, rfl, rfl, rfl, rfl⟩

theorem w_goesTo (G : jj_G) (σ : jm) (hv : m_inv σ) (s : Int32) : jm_M G yX25_goesTo cX25_goesTo 4 (some .int) 0 0 [jI s] σ σ (some (jI (m_goes σ s))) := by
  refine jj_intro "BranchCellsModel" (by decide) rfl (Nat.le_of_ble_eq_true rfl) ?_
  intro X hG hX hr hN hC hF
  subst hG
  refine jj_iconst (pc := 0) hX (v := 0) dX25_goesTo_0 (by decide) ?_
  refine jj_istore_n (pc := 1) hX dX25_goesTo_1 (by decide) ?_
  refine jj_ls [(0, jR (some 0)), (1, jI s), (2, jI (nI 0))] ⟨rfl, rfl, rfl, trivial⟩ ?_
  exact w_goes_1 hX hr σ hv s (nv (σ.1 0 11)) 0 (Nat.zero_add _)


abbrev m_isS (σ : jm) (s : Int32) : Prop := (0 : Int64) ≤ s.toInt64 ∧ s.toInt64 ≤ (σ.1 0 36 - 1).toInt64
theorem m_isS.nv {σ : jm} (hv : m_inv σ) {s : Int32} (h : m_isS σ s) : s = nI (nv s) ∧ nv s < nv (σ.1 0 36) := in_b hv.ts.2.1 (by have := hv.S; omega) h
def m_isH (σ : jm) (s : Int32) : Int32 := if m_isS σ s then (if σ.1 41 (nv s) = 0 then 0 else 1) else 0
theorem m_isH_1 {σ : jm} {s : Int32} (h : ¬ m_isH σ s = 0) : m_isS σ s ∧ ¬ σ.1 41 (nv s) = 0 := by
  unfold m_isH at h
  split at h
  · next h1 =>
    refine ⟨h1, ?_⟩
    split at h
    · exact absurd rfl h
    · next h2 => exact h2
  · exact absurd rfl h
def m_version (σ : jm) (s c : Int32) : Int64 := if m_isH σ s = 0 then 0 else if (0 : Int64) ≤ c.toInt64 ∧ c.toInt64 ≤ (15 : Int64) then (if σ.1 39 (16 * nv s + nv c) = 0 then 0 else σ.2 40 (16 * nv s + nv c)) else 0
def m_below (σ : jm) (s : Int32) : Int32 := if m_isH σ s = 0 then -1 else σ.1 38 (nv s)

theorem w_isHeld (G : jj_G) (σ : jm) (hv : m_inv σ) (s : Int32) : jm_M G yX25_isHeld cX25_isHeld 2 (some .boolean) 1 25 [jI s] σ (m_hold σ) (some (jI (m_isH (m_hold σ) s))) := by
  refine jj_intro "BranchCellsModel" (by decide) rfl (Nat.le_of_ble_eq_true rfl) ?_
  intro X hG hX hr hN hC hF
  subst hG
  refine jj_aload_n (pc := 0) hX dX25_isHeld_0 rfl ?_
  refine jj_callV (pc := 1) hX (w_hold X.1 σ hv) dX25_isHeld_1 (lw_V q1771 q1773 qs46 q78 q1774) rfl ⟨by decide +kernel, by decide +kernel, by show _ = some (0 : Nat); decide +kernel⟩ ⟨Nat.le_of_ble_eq_true rfl, Nat.le_of_ble_eq_true rfl, Nat.le_of_ble_eq_true rfl, Nat.le_of_ble_eq_true rfl, Nat.le_of_ble_eq_true rfl⟩ (fun q => by cases q) rfl jc_25 rfl (jj_keq ?_) jj_kno
  refine jj_iload_n (pc := 4) hX dX25_isHeld_4 rfl ?_
  refine jj_i2l (pc := 5) hX dX25_isHeld_5 ?_
  refine jj_lconst (pc := 6) hX (v := 0) dX25_isHeld_6 (by decide) ?_
  refine jj_aload_n (pc := 7) hX dX25_isHeld_7 rfl ?_
  refine jj_getI (pc := 8) hX fl_X25_157_25 dX25_isHeld_8 rfl rfl ?_
  refine jj_iconst (pc := 11) hX (v := 1) dX25_isHeld_11 (by decide) ?_
  refine jj_isub (pc := 12) hX dX25_isHeld_12 ?_
  refine jj_i2l (pc := 13) hX dX25_isHeld_13 ?_
  refine jj_callS (pc := 14) hX (w_in X.1 _ _ _ _ _ _ _) dX25_isHeld_14 (lw_S q1588 q1589 q78 q1590) ⟨by decide +kernel, by decide +kernel, by show _ = some (3 : Nat); decide +kernel⟩ ⟨Nat.le_of_ble_eq_true rfl, Nat.le_of_ble_eq_true rfl, Nat.le_of_ble_eq_true rfl, Nat.le_of_ble_eq_true rfl, Nat.le_of_ble_eq_true rfl⟩ (fun q => by cases q) rfl (jj_kif (fun hs9 => ?_) (fun hs9 => ?_)) jj_kno
  · obtain ⟨e9, l9⟩ := m_isS.nv hv.hold hs9
    have hS9 := hv.hold.S
    refine jj_if_eq (pc := 17) hX 33 dX25_isHeld_17 rfl (fun q => absurd q (by decide)) (fun _ => ?_)
    refine jj_aload_n (pc := 20) hX dX25_isHeld_20 rfl ?_
    refine jj_getR (pc := 21) hX (x := some 41) fl_X25_111_25 dX25_isHeld_21 rfl rfl rfl ?_
    refine jj_iload_n (pc := 24) hX dX25_isHeld_24 rfl ?_
    refine jj_zald (pc := 25) hX (nv s) dX25_isHeld_25 rfl rfl e9 ⟨by omega, by omega⟩ ?_
    refine jj_if_eq (pc := 26) hX 33 dX25_isHeld_26 rfl (fun h26 => ?_) (fun h26 => ?_)
    · refine jj_iconst (pc := 33) hX (v := 0) dX25_isHeld_33 (by decide) ?_
      refine jj_zret (pc := 34) hX dX25_isHeld_34 hr ⟨Nat.le_refl _, Nat.le_refl _⟩ (by decide) ?_
      unfold m_isH
      rw [if_pos hs9, if_pos h26]
      exact ⟨rfl, rfl, rfl, rfl, rfl⟩
    · refine jj_iconst (pc := 29) hX (v := 1) dX25_isHeld_29 (by decide) ?_
      refine jj_goto (pc := 30) hX 34 dX25_isHeld_30 rfl ?_
      refine jj_zret (pc := 34) hX dX25_isHeld_34 hr ⟨Nat.le_refl _, Nat.le_refl _⟩ (by decide) ?_
      unfold m_isH
      rw [if_pos hs9, if_neg h26]
      exact ⟨rfl, rfl, rfl, rfl, rfl⟩
  · refine jj_if_eq (pc := 17) hX 33 dX25_isHeld_17 rfl (fun _ => ?_) (fun q => absurd (by decide) q)
    refine jj_iconst (pc := 33) hX (v := 0) dX25_isHeld_33 (by decide) ?_
    refine jj_zret (pc := 34) hX dX25_isHeld_34 hr ⟨Nat.le_refl _, Nat.le_refl _⟩ (by decide) ?_
    unfold m_isH
    rw [if_neg hs9]
    exact ⟨rfl, rfl, rfl, rfl, rfl⟩

theorem w_version (G : jj_G) (σ : jm) (hv : m_inv σ) (s c : Int32) : jm_M G yX25_version cX25_version 3 (some .long) 2 46 [jI s, jI c] σ (m_hold σ) (some (jL (m_version (m_hold σ) s c))) := by
  refine jj_intro "BranchCellsModel" (by decide) rfl (Nat.le_of_ble_eq_true rfl) ?_
  intro X hG hX hr hN hC hF
  subst hG
  refine jj_aload_n (pc := 0) hX dX25_version_0 rfl ?_
  refine jj_iload_n (pc := 1) hX dX25_version_1 rfl ?_
  refine jj_callV (pc := 2) hX (w_isHeld X.1 σ hv _) dX25_version_2 (lw_V q1783 q1785 qs48 q78 q1786) rfl ⟨by decide +kernel, by decide +kernel, by show _ = some (1 : Nat); decide +kernel⟩ ⟨Nat.le_of_ble_eq_true rfl, Nat.le_of_ble_eq_true rfl, Nat.le_of_ble_eq_true rfl, Nat.le_of_ble_eq_true rfl, Nat.le_of_ble_eq_true rfl⟩ (fun q => by cases q) rfl jc_25 rfl (jj_keq ?_) jj_kno
  refine jj_if_eq (pc := 5) hX 48 dX25_version_5 rfl (fun h5 => ?_) (fun h5 => ?_)
  · refine jj_lconst (pc := 48) hX (v := 0) dX25_version_48 (by decide) ?_
    refine jj_lret (pc := 49) hX dX25_version_49 hr ⟨Nat.le_refl _, Nat.le_refl _⟩ ?_
    unfold m_version
    rw [if_pos h5]
    exact ⟨rfl, rfl, rfl, rfl, rfl⟩
  · obtain ⟨hs8, hs7⟩ := m_isH_1 h5
    obtain ⟨e9, l9⟩ := m_isS.nv hv.hold hs8
    have hS9 := hv.hold.S
    refine jj_iload_n (pc := 8) hX dX25_version_8 rfl ?_
    refine jj_i2l (pc := 9) hX dX25_version_9 ?_
    refine jj_lconst (pc := 10) hX (v := 0) dX25_version_10 (by decide) ?_
    refine jj_ldc2 (pc := 11) hX (v := 15) q1592 dX25_version_11 ?_
    refine jj_callS (pc := 14) hX (w_in X.1 _ _ _ _ _ _ _) dX25_version_14 (lw_S q1588 q1589 q78 q1590) ⟨by decide +kernel, by decide +kernel, by show _ = some (3 : Nat); decide +kernel⟩ ⟨Nat.le_of_ble_eq_true rfl, Nat.le_of_ble_eq_true rfl, Nat.le_of_ble_eq_true rfl, Nat.le_of_ble_eq_true rfl, Nat.le_of_ble_eq_true rfl⟩ (fun q => by cases q) rfl (jj_kif (fun hi9 => ?_) (fun hi9 => ?_)) jj_kno
    · refine jj_if_eq (pc := 17) hX 48 dX25_version_17 rfl (fun q => absurd q (by decide)) (fun _ => ?_)
      obtain ⟨e8, l8⟩ := in_k 15 rfl hi9
      refine jj_aload_n (pc := 20) hX dX25_version_20 rfl ?_
      refine jj_getR (pc := 21) hX (x := some 39) fl_X25_105_25 dX25_version_21 rfl rfl rfl ?_
      refine jj_bipush (pc := 24) hX (v := 16) dX25_version_24 (by decide) ?_
      refine jj_iload_n (pc := 26) hX dX25_version_26 rfl ?_
      refine jj_imul (pc := 27) hX dX25_version_27 ?_
      refine jj_iload_n (pc := 28) hX dX25_version_28 rfl ?_
      refine jj_iadd (pc := 29) hX dX25_version_29 ?_
      refine jj_zald (pc := 30) hX ((16 * nv s) + nv c) dX25_version_30 rfl rfl (ix_add (ix_mul rfl e9) e8) ⟨by omega, by omega⟩ ?_
      refine jj_if_eq (pc := 31) hX 48 dX25_version_31 rfl (fun h31 => ?_) (fun h31 => ?_)
      · refine jj_lconst (pc := 48) hX (v := 0) dX25_version_48 (by decide) ?_
        refine jj_lret (pc := 49) hX dX25_version_49 hr ⟨Nat.le_refl _, Nat.le_refl _⟩ ?_
        unfold m_version
        rw [if_neg h5, if_pos hi9, if_pos h31]
        exact ⟨rfl, rfl, rfl, rfl, rfl⟩
      · refine jj_aload_n (pc := 34) hX dX25_version_34 rfl ?_
        refine jj_getR (pc := 35) hX (x := some 40) fl_X25_108_25 dX25_version_35 rfl rfl rfl ?_
        refine jj_bipush (pc := 38) hX (v := 16) dX25_version_38 (by decide) ?_
        refine jj_iload_n (pc := 40) hX dX25_version_40 rfl ?_
        refine jj_imul (pc := 41) hX dX25_version_41 ?_
        refine jj_iload_n (pc := 42) hX dX25_version_42 rfl ?_
        refine jj_iadd (pc := 43) hX dX25_version_43 ?_
        refine jj_lald (pc := 44) hX ((16 * nv s) + nv c) dX25_version_44 rfl rfl (ix_add (ix_mul rfl e9) e8) ⟨by omega, by omega⟩ ?_
        refine jj_goto (pc := 45) hX 49 dX25_version_45 rfl ?_
        refine jj_lret (pc := 49) hX dX25_version_49 hr ⟨Nat.le_refl _, Nat.le_refl _⟩ ?_
        unfold m_version
        rw [if_neg h5, if_pos hi9, if_neg h31]
        exact ⟨rfl, rfl, rfl, rfl, rfl⟩
    · refine jj_if_eq (pc := 17) hX 48 dX25_version_17 rfl (fun _ => ?_) (fun q => absurd (by decide) q)
      refine jj_lconst (pc := 48) hX (v := 0) dX25_version_48 (by decide) ?_
      refine jj_lret (pc := 49) hX dX25_version_49 hr ⟨Nat.le_refl _, Nat.le_refl _⟩ ?_
      unfold m_version
      rw [if_neg h5, if_neg hi9]
      exact ⟨rfl, rfl, rfl, rfl, rfl⟩

theorem w_below (G : jj_G) (σ : jm) (hv : m_inv σ) (s : Int32) : jm_M G yX25_below cX25_below 2 (some .int) 2 46 [jI s] σ (m_hold σ) (some (jI (m_below (m_hold σ) s))) := by
  refine jj_intro "BranchCellsModel" (by decide) rfl (Nat.le_of_ble_eq_true rfl) ?_
  intro X hG hX hr hN hC hF
  subst hG
  refine jj_aload_n (pc := 0) hX dX25_below_0 rfl ?_
  refine jj_iload_n (pc := 1) hX dX25_below_1 rfl ?_
  refine jj_callV (pc := 2) hX (w_isHeld X.1 σ hv _) dX25_below_2 (lw_V q1783 q1785 qs48 q78 q1786) rfl ⟨by decide +kernel, by decide +kernel, by show _ = some (1 : Nat); decide +kernel⟩ ⟨Nat.le_of_ble_eq_true rfl, Nat.le_of_ble_eq_true rfl, Nat.le_of_ble_eq_true rfl, Nat.le_of_ble_eq_true rfl, Nat.le_of_ble_eq_true rfl⟩ (fun q => by cases q) rfl jc_25 rfl (jj_keq ?_) jj_kno
  refine jj_if_eq (pc := 5) hX 17 dX25_below_5 rfl (fun h5 => ?_) (fun h5 => ?_)
  · refine jj_iconst (pc := 17) hX (v := (-1)) dX25_below_17 (by decide) ?_
    refine jj_iret (pc := 18) hX dX25_below_18 hr ⟨Nat.le_refl _, Nat.le_refl _⟩ ?_
    unfold m_below
    rw [if_pos h5]
    exact ⟨rfl, rfl, rfl, rfl, rfl⟩
  · obtain ⟨hs8, hs7⟩ := m_isH_1 h5
    obtain ⟨e9, l9⟩ := m_isS.nv hv.hold hs8
    have hS9 := hv.hold.S
    refine jj_aload_n (pc := 8) hX dX25_below_8 rfl ?_
    refine jj_getR (pc := 9) hX (x := some 38) fl_X25_102_25 dX25_below_9 rfl rfl rfl ?_
    refine jj_iload_n (pc := 12) hX dX25_below_12 rfl ?_
    refine jj_iald (pc := 13) hX (nv s) dX25_below_13 rfl rfl e9 ⟨by omega, by omega⟩ ?_
    refine jj_goto (pc := 14) hX 18 dX25_below_14 rfl ?_
    refine jj_iret (pc := 18) hX dX25_below_18 hr ⟨Nat.le_refl _, Nat.le_refl _⟩ ?_
    unfold m_below
    rw [if_neg h5]
    exact ⟨rfl, rfl, rfl, rfl, rfl⟩
