set_option maxRecDepth 100000
theorem op_c {x : Int32} (h : jb x 10) (h4 : 4 ≤ x) : x = 4 ∨ x = 5 ∨ x = 6 ∨ x = 7 ∨ x = 8 ∨ x = 9 ∨ x = 10 := by
  have h2 := h.2
  have h3 : 4 ≤ nv x := by
    rw [h.1, show (4 : Int32) = nI 4 from rfl, nI_leI (by decide) (by omega)] at h4
    exact h4
  have h5 := h.1
  generalize nv x = m at *
  subst h5
  have : m = 4 ∨ m = 5 ∨ m = 6 ∨ m = 7 ∨ m = 8 ∨ m = 9 ∨ m = 10 := by omega
  rcases this with rfl | rfl | rfl | rfl | rfl | rfl | rfl <;> decide

theorem w_ofTwo (G : jj_G) (op : Int32) (x y : Int64) (hop : jb op 10) (h4 : 4 ≤ op) : jm_S G yX25_ofTwo cX25_ofTwo 5 (some .long) 0 0 [jI op, jL x, jL y] (some (jL (m_two op x y))) := by
  intro τ I L r
  refine jj_intro "BranchCellsModel" (by decide) rfl (Nat.le_of_ble_eq_true rfl) ?_
  intro X hG hX hr hN hC hF
  subst hG
  rcases op_c hop h4 with rfl | rfl | rfl | rfl | rfl | rfl | rfl
  · refine jj_iload_n (pc := 0) hX dX25_ofTwo_0 rfl ?_
    refine jj_tabIn (pc := 1) hX 40 dX25_ofTwo_1 (by decide) (by decide) rfl rfl ?_
    refine jj_lload_n (pc := 40) hX dX25_ofTwo_40 rfl ?_
    refine jj_lload_n (pc := 41) hX dX25_ofTwo_41 rfl ?_
    refine jj_ladd (pc := 42) hX dX25_ofTwo_42 ?_
    refine jj_lret (pc := 43) hX dX25_ofTwo_43 hr ⟨Nat.le_refl _, Nat.le_refl _⟩ ?_
    exact ⟨rfl, rfl, rfl, rfl, rfl⟩
  · refine jj_iload_n (pc := 0) hX dX25_ofTwo_0 rfl ?_
    refine jj_tabIn (pc := 1) hX 44 dX25_ofTwo_1 (by decide) (by decide) rfl rfl ?_
    refine jj_lload_n (pc := 44) hX dX25_ofTwo_44 rfl ?_
    refine jj_lload_n (pc := 45) hX dX25_ofTwo_45 rfl ?_
    refine jj_lsub (pc := 46) hX dX25_ofTwo_46 ?_
    refine jj_lret (pc := 47) hX dX25_ofTwo_47 hr ⟨Nat.le_refl _, Nat.le_refl _⟩ ?_
    exact ⟨rfl, rfl, rfl, rfl, rfl⟩
  · refine jj_iload_n (pc := 0) hX dX25_ofTwo_0 rfl ?_
    refine jj_tabIn (pc := 1) hX 48 dX25_ofTwo_1 (by decide) (by decide) rfl rfl ?_
    refine jj_lload_n (pc := 48) hX dX25_ofTwo_48 rfl ?_
    refine jj_lload_n (pc := 49) hX dX25_ofTwo_49 rfl ?_
    refine jj_lcmp (pc := 50) hX dX25_ofTwo_50 ?_
    refine jj_if_ge (pc := 51) hX 58 dX25_ofTwo_51 rfl (fun h51 => ?_) (fun h51 => ?_)
    · have h51 := (lg_cmp_ge x y).mp h51
      refine jj_lload_n (pc := 58) hX dX25_ofTwo_58 rfl ?_
      refine jj_lret (pc := 59) hX dX25_ofTwo_59 hr ⟨Nat.le_refl _, Nat.le_refl _⟩ ?_
      rw [show m_two 6 x y = (if y ≤ x then y else x) from rfl, if_pos h51]
      exact ⟨rfl, rfl, rfl, rfl, rfl⟩
    · have h51 := (not_congr (lg_cmp_ge x y)).mp h51
      refine jj_lload_n (pc := 54) hX dX25_ofTwo_54 rfl ?_
      refine jj_goto (pc := 55) hX 59 dX25_ofTwo_55 rfl ?_
      refine jj_lret (pc := 59) hX dX25_ofTwo_59 hr ⟨Nat.le_refl _, Nat.le_refl _⟩ ?_
      rw [show m_two 6 x y = (if y ≤ x then y else x) from rfl, if_neg h51]
      exact ⟨rfl, rfl, rfl, rfl, rfl⟩
  · refine jj_iload_n (pc := 0) hX dX25_ofTwo_0 rfl ?_
    refine jj_tabIn (pc := 1) hX 60 dX25_ofTwo_1 (by decide) (by decide) rfl rfl ?_
    refine jj_lload_n (pc := 60) hX dX25_ofTwo_60 rfl ?_
    refine jj_lload_n (pc := 61) hX dX25_ofTwo_61 rfl ?_
    refine jj_lcmp (pc := 62) hX dX25_ofTwo_62 ?_
    refine jj_if_le (pc := 63) hX 70 dX25_ofTwo_63 rfl (fun h63 => ?_) (fun h63 => ?_)
    · have h63 := (lg_cmp_le x y).mp h63
      refine jj_lload_n (pc := 70) hX dX25_ofTwo_70 rfl ?_
      refine jj_lret (pc := 71) hX dX25_ofTwo_71 hr ⟨Nat.le_refl _, Nat.le_refl _⟩ ?_
      rw [show m_two 7 x y = (if x ≤ y then y else x) from rfl, if_pos h63]
      exact ⟨rfl, rfl, rfl, rfl, rfl⟩
    · have h63 := (not_congr (lg_cmp_le x y)).mp h63
      refine jj_lload_n (pc := 66) hX dX25_ofTwo_66 rfl ?_
      refine jj_goto (pc := 67) hX 71 dX25_ofTwo_67 rfl ?_
      refine jj_lret (pc := 71) hX dX25_ofTwo_71 hr ⟨Nat.le_refl _, Nat.le_refl _⟩ ?_
      rw [show m_two 7 x y = (if x ≤ y then y else x) from rfl, if_neg h63]
      exact ⟨rfl, rfl, rfl, rfl, rfl⟩
  · refine jj_iload_n (pc := 0) hX dX25_ofTwo_0 rfl ?_
    refine jj_tabIn (pc := 1) hX 72 dX25_ofTwo_1 (by decide) (by decide) rfl rfl ?_
    refine jj_lload_n (pc := 72) hX dX25_ofTwo_72 rfl ?_
    refine jj_lload_n (pc := 73) hX dX25_ofTwo_73 rfl ?_
    refine jj_land (pc := 74) hX dX25_ofTwo_74 ?_
    refine jj_lret (pc := 75) hX dX25_ofTwo_75 hr ⟨Nat.le_refl _, Nat.le_refl _⟩ ?_
    exact ⟨rfl, rfl, rfl, rfl, rfl⟩
  · refine jj_iload_n (pc := 0) hX dX25_ofTwo_0 rfl ?_
    refine jj_tabIn (pc := 1) hX 76 dX25_ofTwo_1 (by decide) (by decide) rfl rfl ?_
    refine jj_lload_n (pc := 76) hX dX25_ofTwo_76 rfl ?_
    refine jj_lload_n (pc := 77) hX dX25_ofTwo_77 rfl ?_
    refine jj_lor (pc := 78) hX dX25_ofTwo_78 ?_
    refine jj_lret (pc := 79) hX dX25_ofTwo_79 hr ⟨Nat.le_refl _, Nat.le_refl _⟩ ?_
    exact ⟨rfl, rfl, rfl, rfl, rfl⟩
  · refine jj_iload_n (pc := 0) hX dX25_ofTwo_0 rfl ?_
    refine jj_tabOut (pc := 1) hX 80 dX25_ofTwo_1 (Or.inr (by decide)) rfl ?_
    refine jj_lload_n (pc := 80) hX dX25_ofTwo_80 rfl ?_
    refine jj_lload_n (pc := 81) hX dX25_ofTwo_81 rfl ?_
    refine jj_lxor (pc := 82) hX dX25_ofTwo_82 ?_
    refine jj_lret (pc := 83) hX dX25_ofTwo_83 hr ⟨Nat.le_refl _, Nat.le_refl _⟩ ?_
    exact ⟨rfl, rfl, rfl, rfl, rfl⟩

theorem w_told_l {X : jj_X} (hX : jj_ok X cX25_told "BranchCellsModel" 11 1 24 0 0) (hr : jj_Ret X (some .long)) (σ : jm) (o : Nat) (b u t : Int64) (ho : o < 4) (hm : jb (σ.1 6 o) 12) (hop : ∀ k, k < nv (σ.1 6 o) → jb (σ.1 7 (12 * o + k)) 10) : ∀ (n k d : Nat) (L : jj_L), k + n = nv (σ.1 6 o) → d ≤ k → m_rt (fun k => σ.1 7 (12 * o + k)) n k d = true → jj_J X (jj_End X (jj_eq (some (jL ((m_tl 10 (fun k => σ.1 7 (12 * o + k)) (fun k => σ.1 8 (12 * o + k)) b u t n k d L) 10 0))) jm_T σ.1 (m_tl 10 (fun k => σ.1 7 (12 * o + k)) (fun k => σ.1 8 (12 * o + k)) b u t n k d L) jm_R) jj_no 0 0) 0 0 6 [(0, jR (some 0)), (1, jI (nI o)), (2, jL b), (4, jL u), (6, jL t), (8, jI (nI d)), (9, jI (nI k))] [] jm_T σ.1 L jm_R := by
  have hm2 := hm.2
  intro n
  induction n with
  | zero =>
    intro k d L hk hd hrt
    have hge : σ.1 6 o ≤ nI k := by rw [hm.1]; exact nI_le (by omega) (by omega)
    unfold m_tl
    refine jj_iload (pc := 6) hX dX25_told_6 rfl ?_
    refine jj_aload_n (pc := 8) hX dX25_told_8 rfl ?_
    refine jj_getR (pc := 9) hX (x := some 6) fl_X25_19_25 dX25_told_9 rfl rfl rfl ?_
    refine jj_iload_n (pc := 12) hX dX25_told_12 rfl ?_
    refine jj_iald (pc := 13) hX o dX25_told_13 rfl rfl rfl ⟨by omega, by omega⟩ ?_
    refine jj_icmp_ge (pc := 14) hX 133 dX25_told_14 rfl (fun _ => ?_) (fun q => absurd hge q)
    refine jj_aload_n (pc := 133) hX dX25_told_133 rfl ?_
    refine jj_getR (pc := 134) hX (x := some 10) fl_X25_31_25 dX25_told_134 rfl rfl rfl ?_
    refine jj_iconst (pc := 137) hX (v := 0) dX25_told_137 (by decide) ?_
    refine jj_lald (pc := 138) hX 0 dX25_told_138 rfl rfl rfl ⟨by omega, by omega⟩ ?_
    exact jj_lret (pc := 139) hX dX25_told_139 hr ⟨Nat.le_refl _, Nat.le_refl _⟩ (⟨rfl, rfl, rfl, rfl, rfl⟩)
  | succ n ih =>
    intro k d L hk hd hrt
    have hlt : ¬ σ.1 6 o ≤ nI k := by rw [hm.1]; exact nI_ge (by omega) (by omega)
    have hopk := hop k (by omega)
    unfold m_rt at hrt
    refine jj_iload (pc := 6) hX dX25_told_6 rfl ?_
    refine jj_aload_n (pc := 8) hX dX25_told_8 rfl ?_
    refine jj_getR (pc := 9) hX (x := some 6) fl_X25_19_25 dX25_told_9 rfl rfl rfl ?_
    refine jj_iload_n (pc := 12) hX dX25_told_12 rfl ?_
    refine jj_iald (pc := 13) hX o dX25_told_13 rfl rfl rfl ⟨by omega, by omega⟩ ?_
    refine jj_icmp_ge (pc := 14) hX 133 dX25_told_14 rfl (fun q => absurd q hlt) (fun _ => ?_)
    refine jj_aload_n (pc := 17) hX dX25_told_17 rfl ?_
    refine jj_getR (pc := 18) hX (x := some 7) fl_X25_22_25 dX25_told_18 rfl rfl rfl ?_
    refine jj_bipush (pc := 21) hX (v := 12) dX25_told_21 (by decide) ?_
    refine jj_iload_n (pc := 23) hX dX25_told_23 rfl ?_
    refine jj_imul (pc := 24) hX dX25_told_24 ?_
    refine jj_iload (pc := 25) hX dX25_told_25 rfl ?_
    refine jj_iadd (pc := 27) hX dX25_told_27 ?_
    refine jj_iald (pc := 28) hX ((12 * o) + k) dX25_told_28 rfl rfl (ix_add (ix_mul rfl rfl) rfl) ⟨by omega, by omega⟩ ?_
    refine jj_istore (pc := 29) hX dX25_told_29 (by decide) ?_
    refine jj_iload (pc := 31) hX dX25_told_31 rfl ?_
    refine jj_iconst (pc := 33) hX (v := 4) dX25_told_33 (by decide) ?_
    refine jj_icmp_ge (pc := 34) hX 94 dX25_told_34 rfl (fun h34 => ?_) (fun h34 => ?_)
    · rw [if_pos h34] at hrt
      have hd2 : 2 ≤ d := by
        rcases Nat.lt_or_ge d 2 with q | q
        · rw [if_neg (by omega)] at hrt; cases hrt
        · exact q
      have hrt2 : m_rt (fun k => σ.1 7 (12 * o + k)) n (k + 1) (d - 1) = true := by rw [if_pos hd2] at hrt; exact hrt
      refine jj_iinc (pc := 94) hX (v := nI (d - 1)) dX25_told_94 rfl (nI_dec d (by omega)) (by decide) ?_
      refine jj_aload_n (pc := 97) hX dX25_told_97 rfl ?_
      refine jj_getR (pc := 98) hX (x := some 10) fl_X25_31_25 dX25_told_98 rfl rfl rfl ?_
      refine jj_iload (pc := 101) hX dX25_told_101 rfl ?_
      refine jj_iconst (pc := 103) hX (v := 1) dX25_told_103 (by decide) ?_
      refine jj_isub (pc := 104) hX dX25_told_104 ?_
      refine jj_iload (pc := 105) hX dX25_told_105 rfl ?_
      refine jj_aload_n (pc := 107) hX dX25_told_107 rfl ?_
      refine jj_getR (pc := 108) hX (x := some 10) fl_X25_31_25 dX25_told_108 rfl rfl rfl ?_
      refine jj_iload (pc := 111) hX dX25_told_111 rfl ?_
      refine jj_iconst (pc := 113) hX (v := 1) dX25_told_113 (by decide) ?_
      refine jj_isub (pc := 114) hX dX25_told_114 ?_
      refine jj_lald (pc := 115) hX (d - 1 - 1) dX25_told_115 rfl rfl (ix_sub rfl rfl (by omega)) ⟨by omega, by omega⟩ ?_
      refine jj_aload_n (pc := 116) hX dX25_told_116 rfl ?_
      refine jj_getR (pc := 117) hX (x := some 10) fl_X25_31_25 dX25_told_117 rfl rfl rfl ?_
      refine jj_iload (pc := 120) hX dX25_told_120 rfl ?_
      refine jj_lald (pc := 122) hX (d - 1) dX25_told_122 rfl rfl rfl ⟨by omega, by omega⟩ ?_
      refine jj_callS (pc := 123) hX (w_ofTwo X.1 _ _ _ hopk h34 _ _ _ _) dX25_told_123 (lw_S q1621 q1622 q78 q1623) ⟨by decide +kernel, by decide +kernel, by show _ = some (3 : Nat); decide +kernel⟩ ⟨Nat.le_of_ble_eq_true rfl, Nat.le_of_ble_eq_true rfl, Nat.le_of_ble_eq_true rfl, Nat.le_of_ble_eq_true rfl, Nat.le_of_ble_eq_true rfl⟩ (fun q => by cases q) rfl (jj_keq ?_) jj_kno
      refine jj_last (pc := 126) hX (d - 1 - 1) dX25_told_126 rfl (ix_sub rfl rfl (by omega)) ⟨by omega, by omega⟩ ?_
      refine jj_iinc (pc := 127) hX (v := nI (k + 1)) dX25_told_127 rfl (ix_inc rfl) (by decide) ?_
      refine jj_goto (pc := 130) hX 6 dX25_told_130 rfl ?_
      unfold m_tl
      rw [if_pos h34]
      refine jj_ls [(0, jR (some 0)), (1, jI (nI o)), (2, jL b), (4, jL u), (6, jL t), (8, jI (nI (d - 1))), (9, jI (nI (k + 1)))] ⟨rfl, rfl, rfl, rfl, rfl, rfl, rfl, trivial⟩ ?_
      exact ih (k + 1) (d - 1) _ (by omega) (by omega) hrt2
    · refine jj_aload_n (pc := 37) hX dX25_told_37 rfl ?_
      refine jj_getR (pc := 38) hX (x := some 10) fl_X25_31_25 dX25_told_38 rfl rfl rfl ?_
      refine jj_iload (pc := 41) hX dX25_told_41 rfl ?_
      refine jj_iload (pc := 43) hX dX25_told_43 rfl ?_
      refine jj_if_ne (pc := 45) hX 52 dX25_told_45 rfl (fun h45 => ?_) (fun h45 => ?_)
      · refine jj_iload (pc := 52) hX dX25_told_52 rfl ?_
        refine jj_iconst (pc := 54) hX (v := 1) dX25_told_54 (by decide) ?_
        refine jj_icmp_ne (pc := 55) hX 63 dX25_told_55 rfl (fun h55 => ?_) (fun h55 => ?_)
        · refine jj_iload (pc := 63) hX dX25_told_63 rfl ?_
          refine jj_iconst (pc := 65) hX (v := 2) dX25_told_65 (by decide) ?_
          refine jj_icmp_ne (pc := 66) hX 74 dX25_told_66 rfl (fun h66 => ?_) (fun h66 => ?_)
          · refine jj_aload_n (pc := 74) hX dX25_told_74 rfl ?_
            refine jj_getR (pc := 75) hX (x := some 8) fl_X25_25_25 dX25_told_75 rfl rfl rfl ?_
            refine jj_bipush (pc := 78) hX (v := 12) dX25_told_78 (by decide) ?_
            refine jj_iload_n (pc := 80) hX dX25_told_80 rfl ?_
            refine jj_imul (pc := 81) hX dX25_told_81 ?_
            refine jj_iload (pc := 82) hX dX25_told_82 rfl ?_
            refine jj_iadd (pc := 84) hX dX25_told_84 ?_
            refine jj_iald (pc := 85) hX ((12 * o) + k) dX25_told_85 rfl rfl (ix_add (ix_mul rfl rfl) rfl) ⟨by omega, by omega⟩ ?_
            refine jj_i2l (pc := 86) hX dX25_told_86 ?_
            refine jj_last (pc := 87) hX d dX25_told_87 rfl rfl ⟨by omega, by omega⟩ ?_
            refine jj_iinc (pc := 88) hX (v := nI (d + 1)) dX25_told_88 rfl (ix_inc rfl) (by decide) ?_
            refine jj_goto (pc := 91) hX 127 dX25_told_91 rfl ?_
            refine jj_iinc (pc := 127) hX (v := nI (k + 1)) dX25_told_127 rfl (ix_inc rfl) (by decide) ?_
            refine jj_goto (pc := 130) hX 6 dX25_told_130 rfl ?_
            unfold m_tl
            rw [if_neg h34]
            unfold m_pick
            rw [if_neg h45, if_neg h55, if_neg h66]
            refine jj_ls [(0, jR (some 0)), (1, jI (nI o)), (2, jL b), (4, jL u), (6, jL t), (8, jI (nI (d + 1))), (9, jI (nI (k + 1)))] ⟨rfl, rfl, rfl, rfl, rfl, rfl, rfl, trivial⟩ ?_
            exact ih (k + 1) (d + 1) _ (by omega) (by omega) (by rw [if_neg h34] at hrt; exact hrt)
          · refine jj_lload (pc := 69) hX dX25_told_69 rfl ?_
            refine jj_goto (pc := 71) hX 87 dX25_told_71 rfl ?_
            refine jj_last (pc := 87) hX d dX25_told_87 rfl rfl ⟨by omega, by omega⟩ ?_
            refine jj_iinc (pc := 88) hX (v := nI (d + 1)) dX25_told_88 rfl (ix_inc rfl) (by decide) ?_
            refine jj_goto (pc := 91) hX 127 dX25_told_91 rfl ?_
            refine jj_iinc (pc := 127) hX (v := nI (k + 1)) dX25_told_127 rfl (ix_inc rfl) (by decide) ?_
            refine jj_goto (pc := 130) hX 6 dX25_told_130 rfl ?_
            unfold m_tl
            rw [if_neg h34]
            unfold m_pick
            rw [if_neg h45, if_neg h55, if_pos h66]
            refine jj_ls [(0, jR (some 0)), (1, jI (nI o)), (2, jL b), (4, jL u), (6, jL t), (8, jI (nI (d + 1))), (9, jI (nI (k + 1)))] ⟨rfl, rfl, rfl, rfl, rfl, rfl, rfl, trivial⟩ ?_
            exact ih (k + 1) (d + 1) _ (by omega) (by omega) (by rw [if_neg h34] at hrt; exact hrt)
        · refine jj_lload (pc := 58) hX dX25_told_58 rfl ?_
          refine jj_goto (pc := 60) hX 87 dX25_told_60 rfl ?_
          refine jj_last (pc := 87) hX d dX25_told_87 rfl rfl ⟨by omega, by omega⟩ ?_
          refine jj_iinc (pc := 88) hX (v := nI (d + 1)) dX25_told_88 rfl (ix_inc rfl) (by decide) ?_
          refine jj_goto (pc := 91) hX 127 dX25_told_91 rfl ?_
          refine jj_iinc (pc := 127) hX (v := nI (k + 1)) dX25_told_127 rfl (ix_inc rfl) (by decide) ?_
          refine jj_goto (pc := 130) hX 6 dX25_told_130 rfl ?_
          unfold m_tl
          rw [if_neg h34]
          unfold m_pick
          rw [if_neg h45, if_pos h55]
          refine jj_ls [(0, jR (some 0)), (1, jI (nI o)), (2, jL b), (4, jL u), (6, jL t), (8, jI (nI (d + 1))), (9, jI (nI (k + 1)))] ⟨rfl, rfl, rfl, rfl, rfl, rfl, rfl, trivial⟩ ?_
          exact ih (k + 1) (d + 1) _ (by omega) (by omega) (by rw [if_neg h34] at hrt; exact hrt)
      · refine jj_lload_n (pc := 48) hX dX25_told_48 rfl ?_
        refine jj_goto (pc := 49) hX 87 dX25_told_49 rfl ?_
        refine jj_last (pc := 87) hX d dX25_told_87 rfl rfl ⟨by omega, by omega⟩ ?_
        refine jj_iinc (pc := 88) hX (v := nI (d + 1)) dX25_told_88 rfl (ix_inc rfl) (by decide) ?_
        refine jj_goto (pc := 91) hX 127 dX25_told_91 rfl ?_
        refine jj_iinc (pc := 127) hX (v := nI (k + 1)) dX25_told_127 rfl (ix_inc rfl) (by decide) ?_
        refine jj_goto (pc := 130) hX 6 dX25_told_130 rfl ?_
        unfold m_tl
        rw [if_neg h34]
        unfold m_pick
        rw [if_pos h45]
        refine jj_ls [(0, jR (some 0)), (1, jI (nI o)), (2, jL b), (4, jL u), (6, jL t), (8, jI (nI (d + 1))), (9, jI (nI (k + 1)))] ⟨rfl, rfl, rfl, rfl, rfl, rfl, rfl, trivial⟩ ?_
        exact ih (k + 1) (d + 1) _ (by omega) (by omega) (by rw [if_neg h34] at hrt; exact hrt)

theorem w_told (G : jj_G) (σ : jm) (o : Nat) (b u t : Int64) (ho : o < 4) (hm : jb (σ.1 6 o) 12) (hop : ∀ k, k < nv (σ.1 6 o) → jb (σ.1 7 (12 * o + k)) 10) (hrt : m_right o σ = true) : jm_M G yX25_told cX25_told 11 (some .long) 1 24 [jI (nI o), jL b, jL u, jL t] σ (m_told o b u t σ) (some (jL ((m_told o b u t σ).2 10 0))) := by
  refine jj_intro "BranchCellsModel" (by decide) rfl (Nat.le_of_ble_eq_true rfl) ?_
  intro X hG hX hr hN hC hF
  subst hG
  refine jj_iconst (pc := 0) hX (v := 0) dX25_told_0 (by decide) ?_
  refine jj_istore (pc := 1) hX dX25_told_1 (by decide) ?_
  refine jj_iconst (pc := 3) hX (v := 0) dX25_told_3 (by decide) ?_
  refine jj_istore (pc := 4) hX dX25_told_4 (by decide) ?_
  refine jj_ls [(0, jR (some 0)), (1, jI (nI o)), (2, jL b), (4, jL u), (6, jL t), (8, jI (nI 0)), (9, jI (nI 0))] ⟨rfl, rfl, rfl, rfl, rfl, rfl, rfl, trivial⟩ ?_
  exact w_told_l hX hr σ o b u t ho hm hop (nv (σ.1 6 o)) 0 0 σ.2 (Nat.zero_add _) (Nat.le_refl _) hrt

def m_ch (n : Nat) (s : Int32) : Prop := s = -4 ∨ (s = nI (nv s) ∧ nv s < n)
theorem m_ch.le {n m : Nat} {s : Int32} (h : m_ch n s) (hn : n ≤ m) : m_ch m s := h.imp id (fun q => ⟨q.1, by omega⟩)
/-- under each segment lies an older one, or none -/
def m_und (σ : jm) : Prop := nv (σ.1 0 36) ≤ 169 ∧ ∀ k, k < nv (σ.1 0 36) → m_ch k (σ.1 38 k)

theorem w_readFrom_l {X : jj_X} (hX : jj_ok X cX25_readFrom "BranchCellsModel" 4 0 0 0 0) (hr : jj_Ret X (some .long)) (σ : jm) (c : Nat) (z : Int32) (hc : c < 16) (hu : m_und σ) : ∀ (n : Nat) (s : Int32), n ≤ nv (σ.1 0 36) → m_ch n s → jj_J X (jj_End X (jj_eq (some (jL (m_rd c σ (n + 1) s))) jm_T σ.1 σ.2 jm_R) jj_no 0 0) 0 0 2 [(0, jR (some 0)), (1, jI z), (2, jI (nI c)), (3, jI s)] [] jm_T σ.1 σ.2 jm_R := by
  have hu1 := hu.1
  intro n
  induction n with
  | zero =>
    intro s hn hs
    have h5 : s = -4 := hs.elim id (fun q => absurd q.2 (Nat.not_lt_zero _))
    unfold m_rd
    rw [if_pos h5]
    refine jj_iload_n (pc := 2) hX dX25_readFrom_2 rfl ?_
    refine jj_bipush (pc := 3) hX (v := (-4)) dX25_readFrom_3 (by decide) ?_
    refine jj_icmp_eq (pc := 5) hX 44 dX25_readFrom_5 rfl (fun _ => ?_) (fun q => absurd h5 q)
    refine jj_lconst (pc := 44) hX (v := 0) dX25_readFrom_44 (by decide) ?_
    exact jj_lret (pc := 45) hX dX25_readFrom_45 hr ⟨Nat.le_refl _, Nat.le_refl _⟩ (⟨rfl, rfl, rfl, rfl, rfl⟩)
  | succ n ih =>
    intro s hn hs
    unfold m_rd
    by_cases h5 : s = -4
    · rw [if_pos h5]
      refine jj_iload_n (pc := 2) hX dX25_readFrom_2 rfl ?_
      refine jj_bipush (pc := 3) hX (v := (-4)) dX25_readFrom_3 (by decide) ?_
      refine jj_icmp_eq (pc := 5) hX 44 dX25_readFrom_5 rfl (fun _ => ?_) (fun q => absurd h5 q)
      refine jj_lconst (pc := 44) hX (v := 0) dX25_readFrom_44 (by decide) ?_
      exact jj_lret (pc := 45) hX dX25_readFrom_45 hr ⟨Nat.le_refl _, Nat.le_refl _⟩ (⟨rfl, rfl, rfl, rfl, rfl⟩)
    · rw [if_neg h5]
      obtain ⟨hs1, hs2⟩ := hs.resolve_left h5
      have hu2 := hu.2 (nv s) (by omega)
      refine jj_iload_n (pc := 2) hX dX25_readFrom_2 rfl ?_
      refine jj_bipush (pc := 3) hX (v := (-4)) dX25_readFrom_3 (by decide) ?_
      refine jj_icmp_eq (pc := 5) hX 44 dX25_readFrom_5 rfl (fun q => absurd q h5) (fun _ => ?_)
      refine jj_aload_n (pc := 8) hX dX25_readFrom_8 rfl ?_
      refine jj_getR (pc := 9) hX (x := some 39) fl_X25_105_25 dX25_readFrom_9 rfl rfl rfl ?_
      refine jj_bipush (pc := 12) hX (v := 16) dX25_readFrom_12 (by decide) ?_
      refine jj_iload_n (pc := 14) hX dX25_readFrom_14 rfl ?_
      refine jj_imul (pc := 15) hX dX25_readFrom_15 ?_
      refine jj_iload_n (pc := 16) hX dX25_readFrom_16 rfl ?_
      refine jj_iadd (pc := 17) hX dX25_readFrom_17 ?_
      refine jj_zald (pc := 18) hX ((16 * nv s) + c) dX25_readFrom_18 rfl rfl (ix_add (ix_mul rfl hs1) rfl) ⟨by omega, by omega⟩ ?_
      refine jj_if_eq (pc := 19) hX 34 dX25_readFrom_19 rfl (fun h19 => ?_) (fun h19 => ?_)
      · refine jj_aload_n (pc := 34) hX dX25_readFrom_34 rfl ?_
        refine jj_getR (pc := 35) hX (x := some 38) fl_X25_102_25 dX25_readFrom_35 rfl rfl rfl ?_
        refine jj_iload_n (pc := 38) hX dX25_readFrom_38 rfl ?_
        refine jj_iald (pc := 39) hX (nv s) dX25_readFrom_39 rfl rfl hs1 ⟨by omega, by omega⟩ ?_
        refine jj_istore_n (pc := 40) hX dX25_readFrom_40 (by decide) ?_
        refine jj_goto (pc := 41) hX 2 dX25_readFrom_41 rfl ?_
        rw [if_pos h19]
        refine jj_ls [(0, jR (some 0)), (1, jI z), (2, jI (nI c)), (3, jI (σ.1 38 (nv s)))] ⟨rfl, rfl, rfl, rfl, trivial⟩ ?_
        exact ih _ (by omega) (hu2.le (by omega))
      · refine jj_aload_n (pc := 22) hX dX25_readFrom_22 rfl ?_
        refine jj_getR (pc := 23) hX (x := some 40) fl_X25_108_25 dX25_readFrom_23 rfl rfl rfl ?_
        refine jj_bipush (pc := 26) hX (v := 16) dX25_readFrom_26 (by decide) ?_
        refine jj_iload_n (pc := 28) hX dX25_readFrom_28 rfl ?_
        refine jj_imul (pc := 29) hX dX25_readFrom_29 ?_
        refine jj_iload_n (pc := 30) hX dX25_readFrom_30 rfl ?_
        refine jj_iadd (pc := 31) hX dX25_readFrom_31 ?_
        refine jj_lald (pc := 32) hX ((16 * nv s) + c) dX25_readFrom_32 rfl rfl (ix_add (ix_mul rfl hs1) rfl) ⟨by omega, by omega⟩ ?_
        refine jj_lret (pc := 33) hX dX25_readFrom_33 hr ⟨Nat.le_refl _, Nat.le_refl _⟩ ?_
        rw [if_neg h19]
        exact ⟨rfl, rfl, rfl, rfl, rfl⟩

theorem m_rd_f {c : Nat} {σ : jm} (hu : m_und σ) : ∀ (n m : Nat) (s : Int32), n ≤ nv (σ.1 0 36) → m_ch n s → m_rd c σ (n + 1 + m) s = m_rd c σ (n + 1) s := by
  intro n
  induction n with
  | zero =>
    intro m s _ hs
    have h5 : s = -4 := hs.elim id (fun q => absurd q.2 (Nat.not_lt_zero _))
    rw [show 0 + 1 + m = m + 1 by omega]
    unfold m_rd
    rw [if_pos h5, if_pos h5]
  | succ n ih =>
    intro m s hn hs
    rw [show n + 1 + 1 + m = (n + 1 + m) + 1 by omega]
    unfold m_rd
    by_cases h5 : s = -4
    · rw [if_pos h5, if_pos h5]
    · rw [if_neg h5, if_neg h5]
      obtain ⟨hs1, hs2⟩ := hs.resolve_left h5
      split
      · exact ih m _ (by omega) ((hu.2 (nv s) (by omega)).le (by omega))
      · rfl
theorem m_rd_170 {c : Nat} {σ : jm} (hu : m_und σ) {s : Int32} (hs : m_ch (nv (σ.1 0 36)) s) : m_rd c σ 170 s = m_rd c σ (nv (σ.1 0 36) + 1) s := by
  have h := m_rd_f hu (c := c) (nv (σ.1 0 36)) (169 - nv (σ.1 0 36)) s (Nat.le_refl _) hs
  rw [show nv (σ.1 0 36) + 1 + (169 - nv (σ.1 0 36)) = 170 by have := hu.1; omega] at h
  exact h

theorem w_readFrom (G : jj_G) (σ : jm) (s : Int32) (c : Nat) (hc : c < 16) (hu : m_und σ) (hs : m_ch (nv (σ.1 0 36)) s) : jm_M G yX25_readFrom cX25_readFrom 4 (some .long) 0 0 [jI s, jI (nI c)] σ σ (some (jL (m_rd c σ 170 s))) := by
  refine jj_intro "BranchCellsModel" (by decide) rfl (Nat.le_of_ble_eq_true rfl) ?_
  intro X hG hX hr hN hC hF
  subst hG
  refine jj_iload_n (pc := 0) hX dX25_readFrom_0 rfl ?_
  refine jj_istore_n (pc := 1) hX dX25_readFrom_1 (by decide) ?_
  rw [m_rd_170 hu hs]
  refine jj_ls [(0, jR (some 0)), (1, jI s), (2, jI (nI c)), (3, jI s)] ⟨rfl, rfl, rfl, rfl, trivial⟩ ?_
  exact w_readFrom_l hX hr σ c s hc hu _ s (Nat.le_refl _) hs

theorem w_newSegment_l {X : jj_X} (hX : jj_ok X cX25_newSegment "BranchCellsModel" 3 0 0 0 0) {Q : State → Prop} (S : Nat) (z : Int32) (hS : S < 169) (σe : jm) : ∀ (n c : Nat) (σ : jm), c + n = 16 → σ.1 0 36 = nI S → m_cl S n c σ = σe → jj_J X Q 0 0 39 [(0, jR (some 0)), (1, jI z), (2, jI (nI 16))] [] jm_T σe.1 σe.2 jm_R → jj_J X Q 0 0 12 [(0, jR (some 0)), (1, jI z), (2, jI (nI c))] [] jm_T σ.1 σ.2 jm_R := by
  intro n
  induction n with
  | zero =>
    intro c σ hc hs he K
    obtain rfl : c = 16 := by omega
    unfold m_cl at he
    subst he
    refine jj_iload_n (pc := 12) hX dX25_newSegment_12 rfl ?_
    refine jj_bipush (pc := 13) hX (v := 16) dX25_newSegment_13 (by decide) ?_
    refine jj_icmp_ge (pc := 15) hX 39 dX25_newSegment_15 rfl (fun _ => ?_) (fun q => absurd (nI_le (Nat.le_refl 16) (by decide)) q)
    refine jj_ls [(0, jR (some 0)), (1, jI z), (2, jI (nI 16))] ⟨rfl, rfl, rfl, trivial⟩ ?_
    exact K
  | succ n ih =>
    intro c σ hc hs he K
    unfold m_cl at he
    have hlt : ¬ (16 : Int32) ≤ nI c := by rw [show (16 : Int32) = nI 16 from rfl]; exact nI_ge (by omega) (by decide)
    refine jj_iload_n (pc := 12) hX dX25_newSegment_12 rfl ?_
    refine jj_bipush (pc := 13) hX (v := 16) dX25_newSegment_13 (by decide) ?_
    refine jj_icmp_ge (pc := 15) hX 39 dX25_newSegment_15 rfl (fun q => absurd q hlt) (fun _ => ?_)
    refine jj_aload_n (pc := 18) hX dX25_newSegment_18 rfl ?_
    refine jj_getR (pc := 19) hX (x := some 39) fl_X25_105_25 dX25_newSegment_19 rfl rfl rfl ?_
    refine jj_bipush (pc := 22) hX (v := 16) dX25_newSegment_22 (by decide) ?_
    refine jj_aload_n (pc := 24) hX dX25_newSegment_24 rfl ?_
    refine jj_getI (pc := 25) hX fl_X25_157_25 dX25_newSegment_25 rfl rfl ?_
    refine jj_imul (pc := 28) hX dX25_newSegment_28 ?_
    refine jj_iload_n (pc := 29) hX dX25_newSegment_29 rfl ?_
    refine jj_iadd (pc := 30) hX dX25_newSegment_30 ?_
    refine jj_iconst (pc := 31) hX (v := 0) dX25_newSegment_31 (by decide) ?_
    refine jj_zast (pc := 32) hX ((16 * S) + c) dX25_newSegment_32 rfl (ix_add (ix_mul rfl hs) rfl) ⟨by omega, by omega⟩ (by decide) ?_
    refine jj_iinc (pc := 33) hX (v := nI (c + 1)) dX25_newSegment_33 rfl (ix_inc rfl) (by decide) ?_
    refine jj_goto (pc := 36) hX 12 dX25_newSegment_36 rfl ?_
    refine jj_ls [(0, jR (some 0)), (1, jI z), (2, jI (nI (c + 1)))] ⟨rfl, rfl, rfl, trivial⟩ ?_
    exact ih (c + 1) (m_u σ 39 (16 * S + c) 0) (by omega) hs he K

theorem m_cl_k {S : Nat} {k j : Nat} (hk : k ≠ 39) : ∀ (n c : Nat) (σ : jm), (m_cl S n c σ).1 k j = σ.1 k j := by
  intro n
  induction n with
  | zero => intro c σ; rfl
  | succ n ih =>
    intro c σ
    unfold m_cl
    rw [ih]
    exact jj_un (Or.inl hk)
theorem m_cl_L {S : Nat} : ∀ (n c : Nat) (σ : jm), (m_cl S n c σ).2 = σ.2 := by
  intro n
  induction n with
  | zero => intro c σ; rfl
  | succ n ih =>
    intro c σ
    unfold m_cl
    rw [ih]
    rfl

theorem w_newSegment (G : jj_G) (σ : jm) (b : Int32) (hs : jb (σ.1 0 36) 168) : jm_M G yX25_newSegment cX25_newSegment 3 (some .int) 0 0 [jI b] σ (m_ns b σ) (some (jI (σ.1 0 36))) := by
  refine jj_intro "BranchCellsModel" (by decide) rfl (Nat.le_of_ble_eq_true rfl) ?_
  intro X hG hX hr hN hC hF
  subst hG
  have hs2 := hs.2
  refine jj_aload_n (pc := 0) hX dX25_newSegment_0 rfl ?_
  refine jj_getR (pc := 1) hX (x := some 38) fl_X25_102_25 dX25_newSegment_1 rfl rfl rfl ?_
  refine jj_aload_n (pc := 4) hX dX25_newSegment_4 rfl ?_
  refine jj_getI (pc := 5) hX fl_X25_157_25 dX25_newSegment_5 rfl rfl ?_
  refine jj_iload_n (pc := 8) hX dX25_newSegment_8 rfl ?_
  refine jj_iast (pc := 9) hX (nv (σ.1 0 36)) dX25_newSegment_9 rfl hs.1 ⟨by omega, by omega⟩ ?_
  refine jj_iconst (pc := 10) hX (v := 0) dX25_newSegment_10 (by decide) ?_
  refine jj_istore_n (pc := 11) hX dX25_newSegment_11 (by decide) ?_
  refine jj_ls [(0, jR (some 0)), (1, jI b), (2, jI (nI 0))] ⟨rfl, rfl, rfl, trivial⟩ ?_
  refine w_newSegment_l hX (nv (σ.1 0 36)) b (by omega) _ 16 0 (m_u σ 38 (nv (σ.1 0 36)) b) rfl hs.1 rfl ?_
  have e1 : (m_cl (nv (σ.1 0 36)) 16 0 (m_u σ 38 (nv (σ.1 0 36)) b)).1 0 36 = σ.1 0 36 := m_cl_k (by decide) 16 0 _
  
  refine jj_aload_n (pc := 39) hX dX25_newSegment_39 rfl ?_
  refine jj_dup (pc := 40) hX dX25_newSegment_40 rfl ?_
  refine jj_getI (pc := 41) hX fl_X25_157_25 dX25_newSegment_41 rfl rfl ?_
  refine jj_iconst (pc := 44) hX (v := 1) dX25_newSegment_44 (by decide) ?_
  refine jj_iadd (pc := 45) hX dX25_newSegment_45 ?_
  refine jj_putI (pc := 46) hX fl_X25_157_25 dX25_newSegment_46 rfl rfl rfl ?_
  refine jj_aload_n (pc := 49) hX dX25_newSegment_49 rfl ?_
  refine jj_getI (pc := 50) hX fl_X25_157_25 dX25_newSegment_50 rfl rfl ?_
  refine jj_iconst (pc := 53) hX (v := 1) dX25_newSegment_53 (by decide) ?_
  refine jj_isub (pc := 54) hX dX25_newSegment_54 ?_
  refine jj_iret (pc := 55) hX dX25_newSegment_55 hr ⟨Nat.le_refl _, Nat.le_refl _⟩ ?_
  have e2 : ∀ x : Int32, x + 1 - 1 = x := fun x => by rw [Int32.add_sub_cancel]
  refine ⟨?_, rfl, ?_, ?_, rfl⟩
  · show some (jI (jj_u _ 0 36 _ 0 36 - 1)) = _
    rw [jj_us, e1, e2]
  · show jj_u _ 0 36 _ = jj_u _ 0 36 _
    rw [e1]
  · unfold m_ns
    rw [m_u_2]
