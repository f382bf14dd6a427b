set_option maxRecDepth 100000

def m_c3 (σ : jm) : Nat → Nat → Nat → Nat
  | 0, _, c => c
  | n + 1, t, c => m_c3 σ n (t + 1) (if σ.1 15 t = 0 then c + 1 else c)
def m_c4 (σ : jm) : Nat → Nat → Nat → Nat
  | 0, _, c => c
  | n + 1, s, c => m_c4 σ n (s + 1) (if σ.1 41 s = 0 then c else c + 1)
def m_ctS (σ : jm) : Nat → jm
  | 4 => m_hold σ
  | 5 => m_hold σ
  | _ => σ
def m_ctV (σ : jm) : Nat → Int32
  | 0 => σ.1 0 0
  | 1 => σ.1 0 4
  | 2 => σ.1 0 11
  | 3 => nI (m_c3 σ (nv (σ.1 0 11)) 0 0)
  | 4 => nI (m_c4 (m_hold σ) (nv ((m_hold σ).1 0 36)) 0 0)
  | 5 => nI (m_vers (m_hold σ))
  | 6 => σ.1 0 36
  | 7 => σ.1 0 34
  | 8 => σ.1 0 35
  | 9 => if σ.1 0 10 = 0 then 0 else 1
  | _ => -1
def m_countS (σ : jm) (w : Int32) : jm := if 0 ≤ w ∧ w ≤ 9 then m_ctS σ (nv w) else σ
def m_countV (σ : jm) (w : Int32) : Int32 := if 0 ≤ w ∧ w ≤ 9 then m_ctV σ (nv w) else -1
theorem c10 (w : Int32) : (w = 0 ∨ w = 1 ∨ w = 2 ∨ w = 3 ∨ w = 4 ∨ w = 5 ∨ w = 6 ∨ w = 7 ∨ w = 8 ∨ w = 9) ∨ (w < 0 ∨ 9 < w) := by
  by_cases h : 0 ≤ w ∧ w ≤ 9
  · left
    obtain ⟨h1, h2⟩ := h
    rw [Int32.le_iff_toInt_le] at h1 h2
    obtain ⟨e, hk⟩ := in_nv (x := w) (n := 10) h1 (by have : (9 : Int32).toInt = 9 := rfl; omega)
    generalize nv w = k at e hk
    subst e
    have : k = 0 ∨ k = 1 ∨ k = 2 ∨ k = 3 ∨ k = 4 ∨ k = 5 ∨ k = 6 ∨ k = 7 ∨ k = 8 ∨ k = 9 := by omega
    rcases this with rfl | rfl | rfl | rfl | rfl | rfl | rfl | rfl | rfl | rfl <;> decide
  · right
    by_cases h1 : 0 ≤ w
    · exact Or.inr (Int32.not_le.mp (fun q => h ⟨h1, q⟩))
    · exact Or.inl (Int32.not_le.mp h1)
theorem c10_t {w : Int32} (h : w < 0 ∨ 9 < w) : w.toInt < 0 ∨ 9 < w.toInt := by
  rw [Int32.lt_iff_toInt_lt, Int32.lt_iff_toInt_lt] at h
  exact h
theorem m_inv.ctS {σ : jm} (h : m_inv σ) (w : Nat) : m_inv (m_ctS σ w) := by
  unfold m_ctS
  split
  · exact h.hold
  · exact h.hold
  · exact h
theorem m_ctS_e (σ : jm) (w : Nat) : m_eh σ (m_ctS σ w) := by
  unfold m_ctS
  split
  · exact m_hold_e σ
  · exact m_hold_e σ
  · exact m_eh.rf σ

theorem w_count_3 {X : jj_X} (hX : jj_ok X cX25_count "BranchCellsModel" 4 2 44 0 0) (hr : jj_Ret X (some .int)) (σ : jm) (hv : m_inv σ) (w : Int32) : ∀ (n k c : Nat), k + n = nv (σ.1 0 11) → jj_J X (jj_End X (jj_eq (some (jI (nI (m_c3 σ n k c)))) jm_T σ.1 σ.2 jm_R) jj_no 0 0) 0 0 73 [(0, jR (some 0)), (1, jI w), (2, jI (nI c)), (3, jI (nI k))] [] jm_T σ.1 σ.2 jm_R := by
  have hS := hv.S
  have hT := hv.T
  intro n
  induction n with
  | zero =>
    intro k c hn
    have h9 : σ.1 0 11 ≤ nI k := by rw [hv.ts.1]; exact nI_le (by omega) (by omega)
    unfold m_c3
    refine jj_iload_n (pc := 73) hX dX25_count_73 rfl ?_
    refine jj_aload_n (pc := 74) hX dX25_count_74 rfl ?_
    refine jj_getI (pc := 75) hX fl_X25_160_25 dX25_count_75 rfl rfl ?_
    refine jj_icmp_ge (pc := 78) hX 104 dX25_count_78 rfl (fun _ => ?_) (fun q => absurd h9 q)
    refine jj_iload_n (pc := 104) hX dX25_count_104 rfl ?_
    exact jj_iret (pc := 105) hX dX25_count_105 hr ⟨Nat.le_refl _, Nat.le_refl _⟩ (⟨rfl, rfl, rfl, rfl, rfl⟩)
  | succ n ih =>
    intro k c hn
    have h9 : ¬ σ.1 0 11 ≤ nI k := by rw [hv.ts.1]; exact nI_ge (by omega) (by omega)
    unfold m_c3
    refine jj_iload_n (pc := 73) hX dX25_count_73 rfl ?_
    refine jj_aload_n (pc := 74) hX dX25_count_74 rfl ?_
    refine jj_getI (pc := 75) hX fl_X25_160_25 dX25_count_75 rfl rfl ?_
    refine jj_icmp_ge (pc := 78) hX 104 dX25_count_78 rfl (fun q => absurd q h9) (fun _ => ?_)
    refine jj_iload_n (pc := 81) hX dX25_count_81 rfl ?_
    refine jj_aload_n (pc := 82) hX dX25_count_82 rfl ?_
    refine jj_getR (pc := 83) hX (x := some 15) fl_X25_41_25 dX25_count_83 rfl rfl rfl ?_
    refine jj_iload_n (pc := 86) hX dX25_count_86 rfl ?_
    refine jj_iald (pc := 87) hX k dX25_count_87 rfl rfl rfl ⟨by omega, by omega⟩ ?_
    refine jj_if_ne (pc := 88) hX 95 dX25_count_88 rfl (fun h88 => ?_) (fun h88 => ?_)
    · refine jj_iconst (pc := 95) hX (v := 0) dX25_count_95 (by decide) ?_
      refine jj_iadd (pc := 96) hX dX25_count_96 ?_
      refine jj_top (nI c) (nI_add c 0) ?_
      refine jj_istore_n (pc := 97) hX dX25_count_97 (by decide) ?_
      refine jj_iinc (pc := 98) hX (v := nI (k + 1)) dX25_count_98 rfl (ix_inc rfl) (by decide) ?_
      refine jj_goto (pc := 101) hX 73 dX25_count_101 rfl ?_
      rw [if_neg h88]
      refine jj_ls [(0, jR (some 0)), (1, jI w), (2, jI (nI c)), (3, jI (nI (k + 1)))] ⟨rfl, rfl, rfl, rfl, trivial⟩ ?_
      exact ih (k + 1) c (by omega)
    · refine jj_iconst (pc := 91) hX (v := 1) dX25_count_91 (by decide) ?_
      refine jj_goto (pc := 92) hX 96 dX25_count_92 rfl ?_
      refine jj_iadd (pc := 96) hX dX25_count_96 ?_
      refine jj_top (nI (c + 1)) (nI_add c 1) ?_
      refine jj_istore_n (pc := 97) hX dX25_count_97 (by decide) ?_
      refine jj_iinc (pc := 98) hX (v := nI (k + 1)) dX25_count_98 rfl (ix_inc rfl) (by decide) ?_
      refine jj_goto (pc := 101) hX 73 dX25_count_101 rfl ?_
      rw [if_pos h88]
      refine jj_ls [(0, jR (some 0)), (1, jI w), (2, jI (nI (c + 1))), (3, jI (nI (k + 1)))] ⟨rfl, rfl, rfl, rfl, trivial⟩ ?_
      exact ih (k + 1) (c + 1) (by omega)

theorem w_count_4 {X : jj_X} (hX : jj_ok X cX25_count "BranchCellsModel" 4 2 44 0 0) (hr : jj_Ret X (some .int)) (σ : jm) (hv : m_inv σ) (w : Int32) : ∀ (n k c : Nat), k + n = nv (σ.1 0 36) → jj_J X (jj_End X (jj_eq (some (jI (nI (m_c4 σ n k c)))) jm_T σ.1 σ.2 jm_R) jj_no 0 0) 0 0 112 [(0, jR (some 0)), (1, jI w), (2, jI (nI c)), (3, jI (nI k))] [] jm_T σ.1 σ.2 jm_R := by
  have hS := hv.S
  have hT := hv.T
  intro n
  induction n with
  | zero =>
    intro k c hn
    have h9 : σ.1 0 36 ≤ nI k := by rw [hv.ts.2.1]; exact nI_le (by omega) (by omega)
    unfold m_c4
    refine jj_iload_n (pc := 112) hX dX25_count_112 rfl ?_
    refine jj_aload_n (pc := 113) hX dX25_count_113 rfl ?_
    refine jj_getI (pc := 114) hX fl_X25_157_25 dX25_count_114 rfl rfl ?_
    refine jj_icmp_ge (pc := 117) hX 143 dX25_count_117 rfl (fun _ => ?_) (fun q => absurd h9 q)
    refine jj_iload_n (pc := 143) hX dX25_count_143 rfl ?_
    exact jj_iret (pc := 144) hX dX25_count_144 hr ⟨Nat.le_refl _, Nat.le_refl _⟩ (⟨rfl, rfl, rfl, rfl, rfl⟩)
  | succ n ih =>
    intro k c hn
    have h9 : ¬ σ.1 0 36 ≤ nI k := by rw [hv.ts.2.1]; exact nI_ge (by omega) (by omega)
    unfold m_c4
    refine jj_iload_n (pc := 112) hX dX25_count_112 rfl ?_
    refine jj_aload_n (pc := 113) hX dX25_count_113 rfl ?_
    refine jj_getI (pc := 114) hX fl_X25_157_25 dX25_count_114 rfl rfl ?_
    refine jj_icmp_ge (pc := 117) hX 143 dX25_count_117 rfl (fun q => absurd q h9) (fun _ => ?_)
    refine jj_iload_n (pc := 120) hX dX25_count_120 rfl ?_
    refine jj_aload_n (pc := 121) hX dX25_count_121 rfl ?_
    refine jj_getR (pc := 122) hX (x := some 41) fl_X25_111_25 dX25_count_122 rfl rfl rfl ?_
    refine jj_iload_n (pc := 125) hX dX25_count_125 rfl ?_
    refine jj_zald (pc := 126) hX k dX25_count_126 rfl rfl rfl ⟨by omega, by omega⟩ ?_
    refine jj_if_eq (pc := 127) hX 134 dX25_count_127 rfl (fun h127 => ?_) (fun h127 => ?_)
    · refine jj_iconst (pc := 134) hX (v := 0) dX25_count_134 (by decide) ?_
      refine jj_iadd (pc := 135) hX dX25_count_135 ?_
      refine jj_top (nI c) (nI_add c 0) ?_
      refine jj_istore_n (pc := 136) hX dX25_count_136 (by decide) ?_
      refine jj_iinc (pc := 137) hX (v := nI (k + 1)) dX25_count_137 rfl (ix_inc rfl) (by decide) ?_
      refine jj_goto (pc := 140) hX 112 dX25_count_140 rfl ?_
      rw [if_pos h127]
      refine jj_ls [(0, jR (some 0)), (1, jI w), (2, jI (nI c)), (3, jI (nI (k + 1)))] ⟨rfl, rfl, rfl, rfl, trivial⟩ ?_
      exact ih (k + 1) c (by omega)
    · refine jj_iconst (pc := 130) hX (v := 1) dX25_count_130 (by decide) ?_
      refine jj_goto (pc := 131) hX 135 dX25_count_131 rfl ?_
      refine jj_iadd (pc := 135) hX dX25_count_135 ?_
      refine jj_top (nI (c + 1)) (nI_add c 1) ?_
      refine jj_istore_n (pc := 136) hX dX25_count_136 (by decide) ?_
      refine jj_iinc (pc := 137) hX (v := nI (k + 1)) dX25_count_137 rfl (ix_inc rfl) (by decide) ?_
      refine jj_goto (pc := 140) hX 112 dX25_count_140 rfl ?_
      rw [if_neg h127]
      refine jj_ls [(0, jR (some 0)), (1, jI w), (2, jI (nI (c + 1))), (3, jI (nI (k + 1)))] ⟨rfl, rfl, rfl, rfl, trivial⟩ ?_
      exact ih (k + 1) (c + 1) (by omega)

theorem w_count (G : jj_G) (σ : jm) (hv : m_inv σ) (w : Int32) : jm_M G yX25_count cX25_count 4 (some .int) 2 44 [jI w] σ (m_countS σ w) (some (jI (m_countV σ w))) := by
  refine jj_intro "BranchCellsModel" (by decide) rfl (Nat.le_of_ble_eq_true rfl) ?_
  intro X hG hX hr hN hC hF
  subst hG
  refine jj_iconst (pc := 0) hX (v := 0) dX25_count_0 (by decide) ?_
  refine jj_istore_n (pc := 1) hX dX25_count_1 (by decide) ?_
  refine jj_iload_n (pc := 2) hX dX25_count_2 rfl ?_
  rcases c10 w with (rfl | rfl | rfl | rfl | rfl | rfl | rfl | rfl | rfl | rfl) | hw
  · refine jj_tabIn (pc := 3) hX 56 dX25_count_3 (by decide) (by decide) rfl rfl ?_
    refine jj_aload_n (pc := 56) hX dX25_count_56 rfl ?_
    refine jj_getI (pc := 57) hX fl_X25_114_25 dX25_count_57 rfl rfl ?_
    refine jj_iret (pc := 60) hX dX25_count_60 hr ⟨Nat.le_refl _, Nat.le_refl _⟩ ?_
    unfold m_countS
    rw [if_pos (by decide)]
    unfold m_countV
    rw [if_pos (by decide)]
    exact ⟨rfl, rfl, rfl, rfl, rfl⟩
  · refine jj_tabIn (pc := 3) hX 61 dX25_count_3 (by decide) (by decide) rfl rfl ?_
    refine jj_aload_n (pc := 61) hX dX25_count_61 rfl ?_
    refine jj_getI (pc := 62) hX fl_X25_134_25 dX25_count_62 rfl rfl ?_
    refine jj_iret (pc := 65) hX dX25_count_65 hr ⟨Nat.le_refl _, Nat.le_refl _⟩ ?_
    unfold m_countS
    rw [if_pos (by decide)]
    unfold m_countV
    rw [if_pos (by decide)]
    exact ⟨rfl, rfl, rfl, rfl, rfl⟩
  · refine jj_tabIn (pc := 3) hX 66 dX25_count_3 (by decide) (by decide) rfl rfl ?_
    refine jj_aload_n (pc := 66) hX dX25_count_66 rfl ?_
    refine jj_getI (pc := 67) hX fl_X25_160_25 dX25_count_67 rfl rfl ?_
    refine jj_iret (pc := 70) hX dX25_count_70 hr ⟨Nat.le_refl _, Nat.le_refl _⟩ ?_
    unfold m_countS
    rw [if_pos (by decide)]
    unfold m_countV
    rw [if_pos (by decide)]
    exact ⟨rfl, rfl, rfl, rfl, rfl⟩
  · refine jj_tabIn (pc := 3) hX 71 dX25_count_3 (by decide) (by decide) rfl rfl ?_
    refine jj_iconst (pc := 71) hX (v := 0) dX25_count_71 (by decide) ?_
    refine jj_istore_n (pc := 72) hX dX25_count_72 (by decide) ?_
    unfold m_countS
    rw [if_pos (by decide)]
    unfold m_countV
    rw [if_pos (by decide)]
    refine jj_ls [(0, jR (some 0)), (1, jI 3), (2, jI (nI 0)), (3, jI (nI 0))] ⟨rfl, rfl, rfl, rfl, trivial⟩ ?_
    exact w_count_3 hX hr σ hv 3 (nv (σ.1 0 11)) 0 0 (Nat.zero_add _)
  · refine jj_tabIn (pc := 3) hX 106 dX25_count_3 (by decide) (by decide) rfl rfl ?_
    refine jj_aload_n (pc := 106) hX dX25_count_106 rfl ?_
    refine jj_callV (pc := 107) hX (w_hold X.1 σ hv) dX25_count_107 (lw_V q1771 q1773 qs46 q78 q1774) rfl ⟨by decide +kernel, by decide +kernel, by show _ = some (0 : Nat); decide +kernel⟩ ⟨Nat.le_of_ble_eq_true rfl, Nat.le_of_ble_eq_true rfl, Nat.le_of_ble_eq_true rfl, Nat.le_of_ble_eq_true rfl, Nat.le_of_ble_eq_true rfl⟩ (fun q => by cases q) rfl jc_25 rfl (jj_keq ?_) jj_kno
    refine jj_iconst (pc := 110) hX (v := 0) dX25_count_110 (by decide) ?_
    refine jj_istore_n (pc := 111) hX dX25_count_111 (by decide) ?_
    unfold m_countS
    rw [if_pos (by decide)]
    unfold m_countV
    rw [if_pos (by decide)]
    refine jj_ls [(0, jR (some 0)), (1, jI 4), (2, jI (nI 0)), (3, jI (nI 0))] ⟨rfl, rfl, rfl, rfl, trivial⟩ ?_
    exact w_count_4 hX hr (m_hold σ) hv.hold 4 (nv ((m_hold σ).1 0 36)) 0 0 (Nat.zero_add _)
  · refine jj_tabIn (pc := 3) hX 145 dX25_count_3 (by decide) (by decide) rfl rfl ?_
    refine jj_aload_n (pc := 145) hX dX25_count_145 rfl ?_
    refine jj_callV (pc := 146) hX (w_versions X.1 σ hv) dX25_count_146 (lw_V q1767 q1769 qs45 q78 q1770) rfl ⟨by decide +kernel, by decide +kernel, by show _ = some (0 : Nat); decide +kernel⟩ ⟨Nat.le_of_ble_eq_true rfl, Nat.le_of_ble_eq_true rfl, Nat.le_of_ble_eq_true rfl, Nat.le_of_ble_eq_true rfl, Nat.le_of_ble_eq_true rfl⟩ (fun q => by cases q) rfl jc_25 rfl (jj_keq ?_) jj_kno
    refine jj_iret (pc := 149) hX dX25_count_149 hr ⟨Nat.le_refl _, Nat.le_refl _⟩ ?_
    unfold m_countS
    rw [if_pos (by decide)]
    unfold m_countV
    rw [if_pos (by decide)]
    exact ⟨rfl, rfl, rfl, rfl, rfl⟩
  · refine jj_tabIn (pc := 3) hX 150 dX25_count_3 (by decide) (by decide) rfl rfl ?_
    refine jj_aload_n (pc := 150) hX dX25_count_150 rfl ?_
    refine jj_getI (pc := 151) hX fl_X25_157_25 dX25_count_151 rfl rfl ?_
    refine jj_iret (pc := 154) hX dX25_count_154 hr ⟨Nat.le_refl _, Nat.le_refl _⟩ ?_
    unfold m_countS
    rw [if_pos (by decide)]
    unfold m_countV
    rw [if_pos (by decide)]
    exact ⟨rfl, rfl, rfl, rfl, rfl⟩
  · refine jj_tabIn (pc := 3) hX 155 dX25_count_3 (by decide) (by decide) rfl rfl ?_
    refine jj_aload_n (pc := 155) hX dX25_count_155 rfl ?_
    refine jj_getI (pc := 156) hX fl_X25_173_25 dX25_count_156 rfl rfl ?_
    refine jj_iret (pc := 159) hX dX25_count_159 hr ⟨Nat.le_refl _, Nat.le_refl _⟩ ?_
    unfold m_countS
    rw [if_pos (by decide)]
    unfold m_countV
    rw [if_pos (by decide)]
    exact ⟨rfl, rfl, rfl, rfl, rfl⟩
  · refine jj_tabIn (pc := 3) hX 160 dX25_count_3 (by decide) (by decide) rfl rfl ?_
    refine jj_aload_n (pc := 160) hX dX25_count_160 rfl ?_
    refine jj_getI (pc := 161) hX fl_X25_176_25 dX25_count_161 rfl rfl ?_
    refine jj_iret (pc := 164) hX dX25_count_164 hr ⟨Nat.le_refl _, Nat.le_refl _⟩ ?_
    unfold m_countS
    rw [if_pos (by decide)]
    unfold m_countV
    rw [if_pos (by decide)]
    exact ⟨rfl, rfl, rfl, rfl, rfl⟩
  · refine jj_tabIn (pc := 3) hX 165 dX25_count_3 (by decide) (by decide) rfl rfl ?_
    refine jj_aload_n (pc := 165) hX dX25_count_165 rfl ?_
    refine jj_getI (pc := 166) hX fl_X25_130_25 dX25_count_166 rfl rfl ?_
    refine jj_if_eq (pc := 169) hX 176 dX25_count_169 rfl (fun h169 => ?_) (fun h169 => ?_)
    · refine jj_iconst (pc := 176) hX (v := 0) dX25_count_176 (by decide) ?_
      refine jj_iret (pc := 177) hX dX25_count_177 hr ⟨Nat.le_refl _, Nat.le_refl _⟩ ?_
      unfold m_countS
      rw [if_pos (by decide)]
      unfold m_countV
      rw [if_pos (by decide)]
      show jj_eq (some (jI (if σ.1 0 10 = 0 then _ else _))) _ _ _ _ _ _ _ _ _
      rw [if_pos h169]
      exact ⟨rfl, rfl, rfl, rfl, rfl⟩
    · refine jj_iconst (pc := 172) hX (v := 1) dX25_count_172 (by decide) ?_
      refine jj_goto (pc := 173) hX 177 dX25_count_173 rfl ?_
      refine jj_iret (pc := 177) hX dX25_count_177 hr ⟨Nat.le_refl _, Nat.le_refl _⟩ ?_
      unfold m_countS
      rw [if_pos (by decide)]
      unfold m_countV
      rw [if_pos (by decide)]
      show jj_eq (some (jI (if σ.1 0 10 = 0 then _ else _))) _ _ _ _ _ _ _ _ _
      rw [if_neg h169]
      exact ⟨rfl, rfl, rfl, rfl, rfl⟩
  · refine jj_tabOut (pc := 3) hX 178 dX25_count_3 (c10_t hw) rfl ?_
    refine jj_iconst (pc := 178) hX (v := (-1)) dX25_count_178 (by decide) ?_
    refine jj_iret (pc := 179) hX dX25_count_179 hr ⟨Nat.le_refl _, Nat.le_refl _⟩ ?_
    unfold m_countS
    rw [if_neg (fun q => hw.elim (fun z => absurd q.1 (Int32.not_le.mpr z)) (fun z => absurd q.2 (Int32.not_le.mpr z)))]
    unfold m_countV
    rw [if_neg (fun q => hw.elim (fun z => absurd q.1 (Int32.not_le.mpr z)) (fun z => absurd q.2 (Int32.not_le.mpr z)))]
    exact ⟨rfl, rfl, rfl, rfl, rfl⟩


def m_z (σ : jm) (r : Int32) : jm := m_u (m_u (m_u (m_u (m_u σ 0 10 r) 0 11 0) 0 36 0) 0 34 0) 0 35 0
def m_stopS (σ : jm) : jm := if σ.1 0 10 = 0 then σ else m_z σ 0
def m_stopV (σ : jm) : Int32 := if σ.1 0 10 = 0 then -2 else σ.1 0 11
def m_my (σ : jm) : Nat → Nat → Int32 → Int32
  | 0, _, m => m
  | n + 1, c, m => m_my σ n (c + 1) (if m = 0 then 0 else if σ.1 9 c < 3 then 1 else (if m_right (nv (σ.1 9 c) - 3) σ = true then 1 else 0))
def m_may (σ : jm) : Int32 := m_my σ 16 0 (if σ.1 0 0 ≤ 0 then 0 else 1)
def m_starts (σ : jm) (v : Int64) : jm := m_nt 0 (-4) v 0 0 (-4) (m_ns (-4) (m_z σ 1))
def m_startS (σ : jm) (v : Int64) : jm := if m_may σ = 0 then σ else m_starts σ v
def m_startV (σ : jm) : Int32 := if m_may σ = 0 then -2 else 1
theorem m_my_01 (σ : jm) : ∀ (n c : Nat) (m : Int32), j01 m → j01 (m_my σ n c m) := by
  intro n
  induction n with
  | zero => intro c m h; exact h
  | succ n ih =>
    intro c m h
    unfold m_my
    refine ih _ _ ?_
    split
    · exact Or.inl rfl
    · split
      · exact Or.inr rfl
      · exact j01_if

theorem w_stop (G : jj_G) (σ : jm)  : jm_M G yX25_stop cX25_stop 2 (some .int) 0 0 [] σ (m_stopS σ) (some (jI (m_stopV σ))) := by
  refine jj_intro "BranchCellsModel" (by decide) rfl (Nat.le_of_ble_eq_true rfl) ?_
  intro X hG hX hr hN hC hF
  subst hG
  refine jj_aload_n (pc := 0) hX dX25_stop_0 rfl ?_
  refine jj_getI (pc := 1) hX fl_X25_130_25 dX25_stop_1 rfl rfl ?_
  refine jj_if_ne (pc := 4) hX 10 dX25_stop_4 rfl (fun h4 => ?_) (fun h4 => ?_)
  · refine jj_aload_n (pc := 10) hX dX25_stop_10 rfl ?_
    refine jj_getI (pc := 11) hX fl_X25_160_25 dX25_stop_11 rfl rfl ?_
    refine jj_istore_n (pc := 14) hX dX25_stop_14 (by decide) ?_
    refine jj_aload_n (pc := 15) hX dX25_stop_15 rfl ?_
    refine jj_iconst (pc := 16) hX (v := 0) dX25_stop_16 (by decide) ?_
    refine jj_putZ (pc := 17) hX fl_X25_130_25 dX25_stop_17 rfl rfl rfl (by decide) ?_
    refine jj_aload_n (pc := 20) hX dX25_stop_20 rfl ?_
    refine jj_iconst (pc := 21) hX (v := 0) dX25_stop_21 (by decide) ?_
    refine jj_putI (pc := 22) hX fl_X25_160_25 dX25_stop_22 rfl rfl rfl ?_
    refine jj_aload_n (pc := 25) hX dX25_stop_25 rfl ?_
    refine jj_iconst (pc := 26) hX (v := 0) dX25_stop_26 (by decide) ?_
    refine jj_putI (pc := 27) hX fl_X25_157_25 dX25_stop_27 rfl rfl rfl ?_
    refine jj_aload_n (pc := 30) hX dX25_stop_30 rfl ?_
    refine jj_iconst (pc := 31) hX (v := 0) dX25_stop_31 (by decide) ?_
    refine jj_putI (pc := 32) hX fl_X25_173_25 dX25_stop_32 rfl rfl rfl ?_
    refine jj_aload_n (pc := 35) hX dX25_stop_35 rfl ?_
    refine jj_iconst (pc := 36) hX (v := 0) dX25_stop_36 (by decide) ?_
    refine jj_putI (pc := 37) hX fl_X25_176_25 dX25_stop_37 rfl rfl rfl ?_
    refine jj_iload_n (pc := 40) hX dX25_stop_40 rfl ?_
    refine jj_iret (pc := 41) hX dX25_stop_41 hr ⟨Nat.le_refl _, Nat.le_refl _⟩ ?_
    unfold m_stopS
    rw [if_neg h4]
    unfold m_stopV
    rw [if_neg h4]
    exact ⟨rfl, rfl, rfl, rfl, rfl⟩
  · refine jj_bipush (pc := 7) hX (v := (-2)) dX25_stop_7 (by decide) ?_
    refine jj_iret (pc := 9) hX dX25_stop_9 hr ⟨Nat.le_refl _, Nat.le_refl _⟩ ?_
    unfold m_stopS
    rw [if_pos h4]
    unfold m_stopV
    rw [if_pos h4]
    exact ⟨rfl, rfl, rfl, rfl, rfl⟩

theorem w_start_l {X : jj_X} (hX : jj_ok X cX25_start "BranchCellsModel" 5 3 74 0 0) {Q : State → Prop} (σ : jm) (hv : m_inv σ) (v : Int64) : ∀ (n c : Nat) (m : Int32), c + n = 16 → jj_J X Q 0 0 66 [(0, jR (some 0)), (1, jL v), (3, jI (m_my σ n c m))] [] jm_T σ.1 σ.2 jm_R → jj_J X Q 0 0 16 [(0, jR (some 0)), (1, jL v), (3, jI m), (4, jI (nI c))] [] jm_T σ.1 σ.2 jm_R := by
  intro n
  induction n with
  | zero =>
    intro c m hn K
    obtain rfl : c = 16 := by omega
    have h9 : (16 : Int32) ≤ nI 16 := by decide
    unfold m_my at K
    refine jj_iload (pc := 16) hX dX25_start_16 rfl ?_
    refine jj_bipush (pc := 18) hX (v := 16) dX25_start_18 (by decide) ?_
    refine jj_icmp_ge (pc := 20) hX 66 dX25_start_20 rfl (fun _ => ?_) (fun q => absurd h9 q)
    refine jj_ls [(0, jR (some 0)), (1, jL v), (3, jI m)] ⟨rfl, rfl, rfl, trivial⟩ ?_
    exact K
  | succ n ih =>
    intro c m hn K
    have h9 : ¬ (16 : Int32) ≤ nI c := by rw [show (16 : Int32) = nI 16 from rfl]; exact nI_ge (by omega) (by decide)
    have k9 := hv.ki c (by omega)
    have k8 := hv.me.2
    unfold m_my at K
    refine jj_iload (pc := 16) hX dX25_start_16 rfl ?_
    refine jj_bipush (pc := 18) hX (v := 16) dX25_start_18 (by decide) ?_
    refine jj_icmp_ge (pc := 20) hX 66 dX25_start_20 rfl (fun q => absurd q h9) (fun _ => ?_)
    refine jj_iload_n (pc := 23) hX dX25_start_23 rfl ?_
    refine jj_if_eq (pc := 24) hX 58 dX25_start_24 rfl (fun h24 => ?_) (fun h24 => ?_)
    · refine jj_iconst (pc := 58) hX (v := 0) dX25_start_58 (by decide) ?_
      refine jj_istore_n (pc := 59) hX dX25_start_59 (by decide) ?_
      refine jj_iinc (pc := 60) hX (v := nI (c + 1)) dX25_start_60 rfl (ix_inc rfl) (by decide) ?_
      refine jj_goto (pc := 63) hX 16 dX25_start_63 rfl ?_
      rw [if_pos h24] at K
      refine jj_ls [(0, jR (some 0)), (1, jL v), (3, jI 0), (4, jI (nI (c + 1)))] ⟨rfl, rfl, rfl, rfl, trivial⟩ ?_
      exact ih (c + 1) _ (by omega) K
    · refine jj_aload_n (pc := 27) hX dX25_start_27 rfl ?_
      refine jj_getR (pc := 28) hX (x := some 9) fl_X25_28_25 dX25_start_28 rfl rfl rfl ?_
      refine jj_iload (pc := 31) hX dX25_start_31 rfl ?_
      refine jj_iald (pc := 33) hX c dX25_start_33 rfl rfl rfl ⟨by omega, by omega⟩ ?_
      refine jj_iconst (pc := 34) hX (v := 3) dX25_start_34 (by decide) ?_
      refine jj_icmp_lt (pc := 35) hX 54 dX25_start_35 rfl (fun h35 => ?_) (fun h35 => ?_)
      · refine jj_iconst (pc := 54) hX (v := 1) dX25_start_54 (by decide) ?_
        refine jj_goto (pc := 55) hX 59 dX25_start_55 rfl ?_
        refine jj_istore_n (pc := 59) hX dX25_start_59 (by decide) ?_
        refine jj_iinc (pc := 60) hX (v := nI (c + 1)) dX25_start_60 rfl (ix_inc rfl) (by decide) ?_
        refine jj_goto (pc := 63) hX 16 dX25_start_63 rfl ?_
        rw [if_neg h24, if_pos h35] at K
        refine jj_ls [(0, jR (some 0)), (1, jL v), (3, jI 1), (4, jI (nI (c + 1)))] ⟨rfl, rfl, rfl, rfl, trivial⟩ ?_
        exact ih (c + 1) _ (by omega) K
      · refine jj_aload_n (pc := 38) hX dX25_start_38 rfl ?_
        refine jj_aload_n (pc := 39) hX dX25_start_39 rfl ?_
        refine jj_getR (pc := 40) hX (x := some 9) fl_X25_28_25 dX25_start_40 rfl rfl rfl ?_
        refine jj_iload (pc := 43) hX dX25_start_43 rfl ?_
        refine jj_iald (pc := 45) hX c dX25_start_45 rfl rfl rfl ⟨by omega, by omega⟩ ?_
        refine jj_iconst (pc := 46) hX (v := 3) dX25_start_46 (by decide) ?_
        refine jj_isub (pc := 47) hX dX25_start_47 ?_
        have k7 : 3 ≤ nv (σ.1 9 c) := by
          have h35b := h35
          rw [k9.1.1, show (3 : Int32) = nI 3 from rfl, nI_ltI (by have := k9.1.2; omega) (by decide)] at h35b
          omega
        have k6 := k9.2 k7
        refine jj_top (nI (nv (σ.1 9 c) - 3)) (ix_sub k9.1.1 rfl k7) ?_
        refine jj_callV (pc := 48) hX (w_right X.1 σ _ (by omega) (hv.am _ (by omega))) dX25_start_48 (lw_V q1608 q1610 qs24 q78 q1611) rfl ⟨by decide +kernel, by decide +kernel, by show _ = some (1 : Nat); decide +kernel⟩ ⟨Nat.le_of_ble_eq_true rfl, Nat.le_of_ble_eq_true rfl, Nat.le_of_ble_eq_true rfl, Nat.le_of_ble_eq_true rfl, Nat.le_of_ble_eq_true rfl⟩ (fun q => by cases q) rfl jc_25 rfl (jj_kif (fun hr9 => ?_) (fun hr9 => ?_)) jj_kno
        · refine jj_if_eq (pc := 51) hX 58 dX25_start_51 rfl (fun q => absurd q (by decide)) (fun _ => ?_)
          refine jj_iconst (pc := 54) hX (v := 1) dX25_start_54 (by decide) ?_
          refine jj_goto (pc := 55) hX 59 dX25_start_55 rfl ?_
          refine jj_istore_n (pc := 59) hX dX25_start_59 (by decide) ?_
          refine jj_iinc (pc := 60) hX (v := nI (c + 1)) dX25_start_60 rfl (ix_inc rfl) (by decide) ?_
          refine jj_goto (pc := 63) hX 16 dX25_start_63 rfl ?_
          rw [if_neg h24, if_neg h35, if_pos hr9] at K
          refine jj_ls [(0, jR (some 0)), (1, jL v), (3, jI 1), (4, jI (nI (c + 1)))] ⟨rfl, rfl, rfl, rfl, trivial⟩ ?_
          exact ih (c + 1) _ (by omega) K
        · refine jj_if_eq (pc := 51) hX 58 dX25_start_51 rfl (fun _ => ?_) (fun q => absurd (by decide) q)
          refine jj_iconst (pc := 58) hX (v := 0) dX25_start_58 (by decide) ?_
          refine jj_istore_n (pc := 59) hX dX25_start_59 (by decide) ?_
          refine jj_iinc (pc := 60) hX (v := nI (c + 1)) dX25_start_60 rfl (ix_inc rfl) (by decide) ?_
          refine jj_goto (pc := 63) hX 16 dX25_start_63 rfl ?_
          rw [if_neg h24, if_neg h35, if_neg hr9] at K
          refine jj_ls [(0, jR (some 0)), (1, jL v), (3, jI 0), (4, jI (nI (c + 1)))] ⟨rfl, rfl, rfl, rfl, trivial⟩ ?_
          exact ih (c + 1) _ (by omega) K

theorem w_start (G : jj_G) (σ : jm) (hv : m_inv σ) (v : Int64) : jm_M G yX25_start cX25_start 5 (some .int) 3 74 [jL v] σ (m_startS σ v) (some (jI (m_startV σ))) := by
  refine jj_intro "BranchCellsModel" (by decide) rfl (Nat.le_of_ble_eq_true rfl) ?_
  intro X hG hX hr hN hC hF
  subst hG
  refine jj_aload_n (pc := 0) hX dX25_start_0 rfl ?_
  refine jj_getI (pc := 1) hX fl_X25_114_25 dX25_start_1 rfl rfl ?_
  refine jj_if_le (pc := 4) hX 11 dX25_start_4 rfl (fun h4 => ?_) (fun h4 => ?_)
  · refine jj_iconst (pc := 11) hX (v := 0) dX25_start_11 (by decide) ?_
    refine jj_istore_n (pc := 12) hX dX25_start_12 (by decide) ?_
    refine jj_iconst (pc := 13) hX (v := 0) dX25_start_13 (by decide) ?_
    refine jj_istore (pc := 14) hX dX25_start_14 (by decide) ?_
    have e8 : m_may σ = m_my σ 16 0 0 := by unfold m_may; rw [if_pos h4]
    refine jj_ls [(0, jR (some 0)), (1, jL v), (3, jI 0), (4, jI (nI 0))] ⟨rfl, rfl, rfl, rfl, trivial⟩ ?_
    refine w_start_l hX σ hv v 16 0 0 rfl ?_
    rw [← e8]
    refine jj_iload_n (pc := 66) hX dX25_start_66 rfl ?_
    refine jj_if_ne (pc := 67) hX 73 dX25_start_67 rfl (fun h67 => ?_) (fun h67 => ?_)
    · refine jj_aload_n (pc := 73) hX dX25_start_73 rfl ?_
      refine jj_iconst (pc := 74) hX (v := 1) dX25_start_74 (by decide) ?_
      refine jj_putZ (pc := 75) hX fl_X25_130_25 dX25_start_75 rfl rfl rfl (by decide) ?_
      refine jj_aload_n (pc := 78) hX dX25_start_78 rfl ?_
      refine jj_iconst (pc := 79) hX (v := 0) dX25_start_79 (by decide) ?_
      refine jj_putI (pc := 80) hX fl_X25_160_25 dX25_start_80 rfl rfl rfl ?_
      refine jj_aload_n (pc := 83) hX dX25_start_83 rfl ?_
      refine jj_iconst (pc := 84) hX (v := 0) dX25_start_84 (by decide) ?_
      refine jj_putI (pc := 85) hX fl_X25_157_25 dX25_start_85 rfl rfl rfl ?_
      refine jj_aload_n (pc := 88) hX dX25_start_88 rfl ?_
      refine jj_iconst (pc := 89) hX (v := 0) dX25_start_89 (by decide) ?_
      refine jj_putI (pc := 90) hX fl_X25_173_25 dX25_start_90 rfl rfl rfl ?_
      refine jj_aload_n (pc := 93) hX dX25_start_93 rfl ?_
      refine jj_iconst (pc := 94) hX (v := 0) dX25_start_94 (by decide) ?_
      refine jj_putI (pc := 95) hX fl_X25_176_25 dX25_start_95 rfl rfl rfl ?_
      refine jj_mem (m_z σ 1) rfl rfl ?_
      refine jj_aload_n (pc := 98) hX dX25_start_98 rfl ?_
      refine jj_bipush (pc := 99) hX (v := (-4)) dX25_start_99 (by decide) ?_
      refine jj_callV (pc := 101) hX (w_newSegment X.1 (m_z σ 1) (-4) ⟨rfl, Nat.zero_le _⟩) dX25_start_101 (lw_V q1634 q1636 qs26 q78 q1637) rfl ⟨by decide +kernel, by decide +kernel, by show _ = some (1 : Nat); decide +kernel⟩ ⟨Nat.le_of_ble_eq_true rfl, Nat.le_of_ble_eq_true rfl, Nat.le_of_ble_eq_true rfl, Nat.le_of_ble_eq_true rfl, Nat.le_of_ble_eq_true rfl⟩ (fun q => by cases q) rfl jc_25 rfl (jj_keq ?_) jj_kno
      refine jj_top 0 rfl ?_
      refine jj_istore (pc := 104) hX dX25_start_104 (by decide) ?_
      refine jj_aload_n (pc := 106) hX dX25_start_106 rfl ?_
      refine jj_iconst (pc := 107) hX (v := 0) dX25_start_107 (by decide) ?_
      refine jj_bipush (pc := 108) hX (v := (-4)) dX25_start_108 (by decide) ?_
      refine jj_lload_n (pc := 110) hX dX25_start_110 rfl ?_
      refine jj_iconst (pc := 111) hX (v := 0) dX25_start_111 (by decide) ?_
      refine jj_iload (pc := 112) hX dX25_start_112 rfl ?_
      refine jj_bipush (pc := 114) hX (v := (-4)) dX25_start_114 (by decide) ?_
      refine jj_callV (pc := 116) hX (w_newTask X.1 (m_ns (-4) (m_z σ 1)) 0 (-4) v 0 0 (-4) ⟨rfl, Nat.zero_le _⟩ ⟨rfl, Nat.zero_le _⟩ (Or.inl rfl) (Or.inl rfl)) dX25_start_116 (lw_V q1638 q1640 qs27 q78 q1641) rfl ⟨by decide +kernel, by decide +kernel, by show _ = some (6 : Nat); decide +kernel⟩ ⟨Nat.le_of_ble_eq_true rfl, Nat.le_of_ble_eq_true rfl, Nat.le_of_ble_eq_true rfl, Nat.le_of_ble_eq_true rfl, Nat.le_of_ble_eq_true rfl⟩ (fun q => by cases q) rfl jc_25 rfl (jj_keq ?_) jj_kno
      refine jj_iconst (pc := 119) hX (v := 1) dX25_start_119 (by decide) ?_
      refine jj_iret (pc := 120) hX dX25_start_120 hr ⟨Nat.le_refl _, Nat.le_refl _⟩ ?_
      unfold m_startS
      rw [if_neg h67]
      unfold m_startV
      rw [if_neg h67]
      exact ⟨rfl, rfl, rfl, rfl, rfl⟩
    · refine jj_bipush (pc := 70) hX (v := (-2)) dX25_start_70 (by decide) ?_
      refine jj_iret (pc := 72) hX dX25_start_72 hr ⟨Nat.le_refl _, Nat.le_refl _⟩ ?_
      unfold m_startS
      rw [if_pos h67]
      unfold m_startV
      rw [if_pos h67]
      exact ⟨rfl, rfl, rfl, rfl, rfl⟩
  · refine jj_iconst (pc := 7) hX (v := 1) dX25_start_7 (by decide) ?_
    refine jj_goto (pc := 8) hX 12 dX25_start_8 rfl ?_
    refine jj_istore_n (pc := 12) hX dX25_start_12 (by decide) ?_
    refine jj_iconst (pc := 13) hX (v := 0) dX25_start_13 (by decide) ?_
    refine jj_istore (pc := 14) hX dX25_start_14 (by decide) ?_
    have e8 : m_may σ = m_my σ 16 0 1 := by unfold m_may; rw [if_neg h4]
    refine jj_ls [(0, jR (some 0)), (1, jL v), (3, jI 1), (4, jI (nI 0))] ⟨rfl, rfl, rfl, rfl, trivial⟩ ?_
    refine w_start_l hX σ hv v 16 0 1 rfl ?_
    rw [← e8]
    refine jj_iload_n (pc := 66) hX dX25_start_66 rfl ?_
    refine jj_if_ne (pc := 67) hX 73 dX25_start_67 rfl (fun h67 => ?_) (fun h67 => ?_)
    · refine jj_aload_n (pc := 73) hX dX25_start_73 rfl ?_
      refine jj_iconst (pc := 74) hX (v := 1) dX25_start_74 (by decide) ?_
      refine jj_putZ (pc := 75) hX fl_X25_130_25 dX25_start_75 rfl rfl rfl (by decide) ?_
      refine jj_aload_n (pc := 78) hX dX25_start_78 rfl ?_
      refine jj_iconst (pc := 79) hX (v := 0) dX25_start_79 (by decide) ?_
      refine jj_putI (pc := 80) hX fl_X25_160_25 dX25_start_80 rfl rfl rfl ?_
      refine jj_aload_n (pc := 83) hX dX25_start_83 rfl ?_
      refine jj_iconst (pc := 84) hX (v := 0) dX25_start_84 (by decide) ?_
      refine jj_putI (pc := 85) hX fl_X25_157_25 dX25_start_85 rfl rfl rfl ?_
      refine jj_aload_n (pc := 88) hX dX25_start_88 rfl ?_
      refine jj_iconst (pc := 89) hX (v := 0) dX25_start_89 (by decide) ?_
      refine jj_putI (pc := 90) hX fl_X25_173_25 dX25_start_90 rfl rfl rfl ?_
      refine jj_aload_n (pc := 93) hX dX25_start_93 rfl ?_
      refine jj_iconst (pc := 94) hX (v := 0) dX25_start_94 (by decide) ?_
      refine jj_putI (pc := 95) hX fl_X25_176_25 dX25_start_95 rfl rfl rfl ?_
      refine jj_mem (m_z σ 1) rfl rfl ?_
      refine jj_aload_n (pc := 98) hX dX25_start_98 rfl ?_
      refine jj_bipush (pc := 99) hX (v := (-4)) dX25_start_99 (by decide) ?_
      refine jj_callV (pc := 101) hX (w_newSegment X.1 (m_z σ 1) (-4) ⟨rfl, Nat.zero_le _⟩) dX25_start_101 (lw_V q1634 q1636 qs26 q78 q1637) rfl ⟨by decide +kernel, by decide +kernel, by show _ = some (1 : Nat); decide +kernel⟩ ⟨Nat.le_of_ble_eq_true rfl, Nat.le_of_ble_eq_true rfl, Nat.le_of_ble_eq_true rfl, Nat.le_of_ble_eq_true rfl, Nat.le_of_ble_eq_true rfl⟩ (fun q => by cases q) rfl jc_25 rfl (jj_keq ?_) jj_kno
      refine jj_top 0 rfl ?_
      refine jj_istore (pc := 104) hX dX25_start_104 (by decide) ?_
      refine jj_aload_n (pc := 106) hX dX25_start_106 rfl ?_
      refine jj_iconst (pc := 107) hX (v := 0) dX25_start_107 (by decide) ?_
      refine jj_bipush (pc := 108) hX (v := (-4)) dX25_start_108 (by decide) ?_
      refine jj_lload_n (pc := 110) hX dX25_start_110 rfl ?_
      refine jj_iconst (pc := 111) hX (v := 0) dX25_start_111 (by decide) ?_
      refine jj_iload (pc := 112) hX dX25_start_112 rfl ?_
      refine jj_bipush (pc := 114) hX (v := (-4)) dX25_start_114 (by decide) ?_
      refine jj_callV (pc := 116) hX (w_newTask X.1 (m_ns (-4) (m_z σ 1)) 0 (-4) v 0 0 (-4) ⟨rfl, Nat.zero_le _⟩ ⟨rfl, Nat.zero_le _⟩ (Or.inl rfl) (Or.inl rfl)) dX25_start_116 (lw_V q1638 q1640 qs27 q78 q1641) rfl ⟨by decide +kernel, by decide +kernel, by show _ = some (6 : Nat); decide +kernel⟩ ⟨Nat.le_of_ble_eq_true rfl, Nat.le_of_ble_eq_true rfl, Nat.le_of_ble_eq_true rfl, Nat.le_of_ble_eq_true rfl, Nat.le_of_ble_eq_true rfl⟩ (fun q => by cases q) rfl jc_25 rfl (jj_keq ?_) jj_kno
      refine jj_iconst (pc := 119) hX (v := 1) dX25_start_119 (by decide) ?_
      refine jj_iret (pc := 120) hX dX25_start_120 hr ⟨Nat.le_refl _, Nat.le_refl _⟩ ?_
      unfold m_startS
      rw [if_neg h67]
      unfold m_startV
      rw [if_neg h67]
      exact ⟨rfl, rfl, rfl, rfl, rfl⟩
    · refine jj_bipush (pc := 70) hX (v := (-2)) dX25_start_70 (by decide) ?_
      refine jj_iret (pc := 72) hX dX25_start_72 hr ⟨Nat.le_refl _, Nat.le_refl _⟩ ?_
      unfold m_startS
      rw [if_pos h67]
      unfold m_startV
      rw [if_pos h67]
      exact ⟨rfl, rfl, rfl, rfl, rfl⟩
