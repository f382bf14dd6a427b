set_option maxRecDepth 100000

abbrev m_isT (σ : jm) (t : Int32) : Prop := (0 : Int64) ≤ t.toInt64 ∧ t.toInt64 ≤ (σ.1 0 11 - 1).toInt64
theorem m_isT.nv {σ : jm} (hv : m_inv σ) {t : Int32} (h : m_isT σ t) : t = nI (nv t) ∧ nv t < nv (σ.1 0 11) := in_b hv.ts.1 (by have := hv.T; omega) h
theorem j01_if {c : Prop} [Decidable c] : j01 (if c then 1 else 0) := by split; exact Or.inr rfl; exact Or.inl rfl
def m_ab (σ : jm) (t : Nat) : Nat → Int32
  | 0 => m_stand t σ
  | 1 => σ.1 20 t
  | 2 => σ.1 21 t
  | 3 => σ.1 17 t
  | 4 => σ.1 16 t
  | 5 => σ.1 13 t
  | 6 => σ.1 14 t
  | 7 => σ.1 19 t
  | 8 => σ.1 18 t
  | 9 => σ.1 32 t
  | 10 => σ.1 34 t
  | 11 => m_waits t σ
  | 12 => if σ.1 15 t = 4 then -4 else σ.1 22 t
  | 13 => σ.1 23 t
  | _ => -1
def m_about (σ : jm) (t w : Int32) : Int32 := if m_isT σ t then (if 0 ≤ w ∧ w ≤ 13 then m_ab σ (nv t) (nv w) else -1) else -1
def m_res (σ : jm) (t : Nat) : Int64 := if σ.1 25 t = 0 then 0 else if σ.1 27 t = 0 then σ.2 26 t else 0
def m_result (σ : jm) (t : Int32) : Int64 := if m_isT σ t then m_res σ (nv t) else 0
def m_out (σ : jm) (t i : Int32) : Int64 := if m_isT σ t then (if (0 : Int64) ≤ i.toInt64 ∧ i.toInt64 ≤ (σ.1 34 (nv t) - 1).toInt64 then σ.2 33 (60 * nv t + nv i) else 0) else 0
def m_read (σ : jm) (t c : Int32) : Int64 := if m_isT σ t then (if (0 : Int64) ≤ c.toInt64 ∧ c.toInt64 ≤ (15 : Int64) then (if σ.1 15 (nv t) = 4 then 0 else m_rd (nv c) σ 170 (σ.1 22 (nv t))) else 0) else 0
def m_mark (σ : jm) (t : Int32) : Int64 := if m_isT σ t then σ.2 24 (nv t) else 0
theorem c14 (w : Int32) : (w = 0 ∨ w = 1 ∨ w = 2 ∨ w = 3 ∨ w = 4 ∨ w = 5 ∨ w = 6 ∨ w = 7 ∨ w = 8 ∨ w = 9 ∨ w = 10 ∨ w = 11 ∨ w = 12 ∨ w = 13) ∨ (w < 0 ∨ 13 < w) := by
  by_cases h : 0 ≤ w ∧ w ≤ 13
  · left
    obtain ⟨h1, h2⟩ := h
    rw [Int32.le_iff_toInt_le] at h1 h2
    obtain ⟨e, hk⟩ := in_nv (x := w) (n := 14) h1 (by have : (13 : Int32).toInt = 13 := rfl; omega)
    generalize nv w = k at e hk
    subst e
    have : k = 0 ∨ k = 1 ∨ k = 2 ∨ k = 3 ∨ k = 4 ∨ k = 5 ∨ k = 6 ∨ k = 7 ∨ k = 8 ∨ k = 9 ∨ k = 10 ∨ k = 11 ∨ k = 12 ∨ k = 13 := by omega
    rcases this with rfl | rfl | rfl | rfl | rfl | rfl | rfl | rfl | rfl | rfl | rfl | rfl | rfl | rfl <;> decide
  · right
    by_cases h1 : 0 ≤ w
    · exact Or.inr (Int32.not_le.mp (fun q => h ⟨h1, q⟩))
    · exact Or.inl (Int32.not_le.mp h1)
theorem c14_t {w : Int32} (h : w < 0 ∨ 13 < w) : w.toInt < 0 ∨ 13 < w.toInt := by
  rw [Int32.lt_iff_toInt_lt, Int32.lt_iff_toInt_lt] at h
  exact h
theorem m_inv.rd {σ : jm} (h : m_inv σ) {t : Nat} (ht : t < nv (σ.1 0 11)) : m_ch (nv (σ.1 0 36)) (σ.1 22 t) := Or.inr (h.tk t ht).pr

theorem w_isTask (G : jj_G) (σ : jm) (t : Int32) : jm_M G yX25_isTask cX25_isTask 2 (some .boolean) 1 25 [jI t] σ σ (some (jI (if m_isT σ t then 1 else 0))) := by
  refine jj_intro "BranchCellsModel" (by decide) rfl (Nat.le_of_ble_eq_true rfl) ?_
  intro X hG hX hr hN hC hF
  subst hG
  refine jj_iload_n (pc := 0) hX dX25_isTask_0 rfl ?_
  refine jj_i2l (pc := 1) hX dX25_isTask_1 ?_
  refine jj_lconst (pc := 2) hX (v := 0) dX25_isTask_2 (by decide) ?_
  refine jj_aload_n (pc := 3) hX dX25_isTask_3 rfl ?_
  refine jj_getI (pc := 4) hX fl_X25_160_25 dX25_isTask_4 rfl rfl ?_
  refine jj_iconst (pc := 7) hX (v := 1) dX25_isTask_7 (by decide) ?_
  refine jj_isub (pc := 8) hX dX25_isTask_8 ?_
  refine jj_i2l (pc := 9) hX dX25_isTask_9 ?_
  refine jj_callS (pc := 10) hX (w_in X.1 _ _ _ _ _ _ _) dX25_isTask_10 (lw_S q1588 q1589 q78 q1590) ⟨by decide +kernel, by decide +kernel, by show _ = some (3 : Nat); decide +kernel⟩ ⟨Nat.le_of_ble_eq_true rfl, Nat.le_of_ble_eq_true rfl, Nat.le_of_ble_eq_true rfl, Nat.le_of_ble_eq_true rfl, Nat.le_of_ble_eq_true rfl⟩ (fun q => by cases q) rfl (jj_keq ?_) jj_kno
  exact jj_zret (pc := 13) hX dX25_isTask_13 hr ⟨Nat.le_refl _, Nat.le_refl _⟩ j01_if (⟨rfl, rfl, rfl, rfl, rfl⟩)

theorem w_about (G : jj_G) (σ : jm) (hv : m_inv σ) (t w : Int32) : jm_M G yX25_about cX25_about 3 (some .int) 2 46 [jI t, jI w] σ σ (some (jI (m_about σ t w))) := by
  refine jj_intro "BranchCellsModel" (by decide) rfl (Nat.le_of_ble_eq_true rfl) ?_
  intro X hG hX hr hN hC hF
  subst hG
  refine jj_aload_n (pc := 0) hX dX25_about_0 rfl ?_
  refine jj_iload_n (pc := 1) hX dX25_about_1 rfl ?_
  refine jj_callV (pc := 2) hX (w_isTask X.1 σ _) dX25_about_2 (lw_V q1659 q1661 qs30 q78 q1662) rfl ⟨by decide +kernel, by decide +kernel, by show _ = some (1 : Nat); decide +kernel⟩ ⟨Nat.le_of_ble_eq_true rfl, Nat.le_of_ble_eq_true rfl, Nat.le_of_ble_eq_true rfl, Nat.le_of_ble_eq_true rfl, Nat.le_of_ble_eq_true rfl⟩ (fun q => by cases q) rfl jc_25 rfl (jj_kif (fun ht9 => ?_) (fun ht9 => ?_)) jj_kno
  · obtain ⟨e9, l9⟩ := m_isT.nv hv ht9
    have hT9 := hv.T
    refine jj_if_ne (pc := 5) hX 10 dX25_about_5 rfl (fun _ => ?_) (fun q => absurd q (by decide))
    refine jj_iload_n (pc := 10) hX dX25_about_10 rfl ?_
    rcases c14 w with (rfl | rfl | rfl | rfl | rfl | rfl | rfl | rfl | rfl | rfl | rfl | rfl | rfl | rfl) | hw
    · refine jj_tabIn (pc := 11) hX 80 dX25_about_11 (by decide) (by decide) rfl rfl ?_
      refine jj_aload_n (pc := 80) hX dX25_about_80 rfl ?_
      refine jj_iload_n (pc := 81) hX dX25_about_81 rfl ?_
      refine jj_top (nI (nv t)) e9 ?_
      refine jj_callV (pc := 82) hX (w_stand X.1 σ _ hv l9) dX25_about_82 (lw_V q1664 q1666 qs31 q78 q1667) rfl ⟨by decide +kernel, by decide +kernel, by show _ = some (1 : Nat); decide +kernel⟩ ⟨Nat.le_of_ble_eq_true rfl, Nat.le_of_ble_eq_true rfl, Nat.le_of_ble_eq_true rfl, Nat.le_of_ble_eq_true rfl, Nat.le_of_ble_eq_true rfl⟩ (fun q => by cases q) rfl jc_25 rfl (jj_keq ?_) jj_kno
      refine jj_iret (pc := 85) hX dX25_about_85 hr ⟨Nat.le_refl _, Nat.le_refl _⟩ ?_
      unfold m_about
      rw [if_pos ht9, if_pos (by decide)]
      exact ⟨rfl, rfl, rfl, rfl, rfl⟩
    · refine jj_tabIn (pc := 11) hX 86 dX25_about_11 (by decide) (by decide) rfl rfl ?_
      refine jj_aload_n (pc := 86) hX dX25_about_86 rfl ?_
      refine jj_getR (pc := 87) hX (x := some 20) fl_X25_56_25 dX25_about_87 rfl rfl rfl ?_
      refine jj_iload_n (pc := 90) hX dX25_about_90 rfl ?_
      refine jj_iald (pc := 91) hX (nv t) dX25_about_91 rfl rfl e9 ⟨by omega, by omega⟩ ?_
      refine jj_iret (pc := 92) hX dX25_about_92 hr ⟨Nat.le_refl _, Nat.le_refl _⟩ ?_
      unfold m_about
      rw [if_pos ht9, if_pos (by decide)]
      exact ⟨rfl, rfl, rfl, rfl, rfl⟩
    · refine jj_tabIn (pc := 11) hX 93 dX25_about_11 (by decide) (by decide) rfl rfl ?_
      refine jj_aload_n (pc := 93) hX dX25_about_93 rfl ?_
      refine jj_getR (pc := 94) hX (x := some 21) fl_X25_59_25 dX25_about_94 rfl rfl rfl ?_
      refine jj_iload_n (pc := 97) hX dX25_about_97 rfl ?_
      refine jj_iald (pc := 98) hX (nv t) dX25_about_98 rfl rfl e9 ⟨by omega, by omega⟩ ?_
      refine jj_iret (pc := 99) hX dX25_about_99 hr ⟨Nat.le_refl _, Nat.le_refl _⟩ ?_
      unfold m_about
      rw [if_pos ht9, if_pos (by decide)]
      exact ⟨rfl, rfl, rfl, rfl, rfl⟩
    · refine jj_tabIn (pc := 11) hX 100 dX25_about_11 (by decide) (by decide) rfl rfl ?_
      refine jj_aload_n (pc := 100) hX dX25_about_100 rfl ?_
      refine jj_getR (pc := 101) hX (x := some 17) fl_X25_47_25 dX25_about_101 rfl rfl rfl ?_
      refine jj_iload_n (pc := 104) hX dX25_about_104 rfl ?_
      refine jj_iald (pc := 105) hX (nv t) dX25_about_105 rfl rfl e9 ⟨by omega, by omega⟩ ?_
      refine jj_iret (pc := 106) hX dX25_about_106 hr ⟨Nat.le_refl _, Nat.le_refl _⟩ ?_
      unfold m_about
      rw [if_pos ht9, if_pos (by decide)]
      exact ⟨rfl, rfl, rfl, rfl, rfl⟩
    · refine jj_tabIn (pc := 11) hX 107 dX25_about_11 (by decide) (by decide) rfl rfl ?_
      refine jj_aload_n (pc := 107) hX dX25_about_107 rfl ?_
      refine jj_getR (pc := 108) hX (x := some 16) fl_X25_44_25 dX25_about_108 rfl rfl rfl ?_
      refine jj_iload_n (pc := 111) hX dX25_about_111 rfl ?_
      refine jj_iald (pc := 112) hX (nv t) dX25_about_112 rfl rfl e9 ⟨by omega, by omega⟩ ?_
      refine jj_iret (pc := 113) hX dX25_about_113 hr ⟨Nat.le_refl _, Nat.le_refl _⟩ ?_
      unfold m_about
      rw [if_pos ht9, if_pos (by decide)]
      exact ⟨rfl, rfl, rfl, rfl, rfl⟩
    · refine jj_tabIn (pc := 11) hX 114 dX25_about_11 (by decide) (by decide) rfl rfl ?_
      refine jj_aload_n (pc := 114) hX dX25_about_114 rfl ?_
      refine jj_getR (pc := 115) hX (x := some 13) fl_X25_35_25 dX25_about_115 rfl rfl rfl ?_
      refine jj_iload_n (pc := 118) hX dX25_about_118 rfl ?_
      refine jj_iald (pc := 119) hX (nv t) dX25_about_119 rfl rfl e9 ⟨by omega, by omega⟩ ?_
      refine jj_iret (pc := 120) hX dX25_about_120 hr ⟨Nat.le_refl _, Nat.le_refl _⟩ ?_
      unfold m_about
      rw [if_pos ht9, if_pos (by decide)]
      exact ⟨rfl, rfl, rfl, rfl, rfl⟩
    · refine jj_tabIn (pc := 11) hX 121 dX25_about_11 (by decide) (by decide) rfl rfl ?_
      refine jj_aload_n (pc := 121) hX dX25_about_121 rfl ?_
      refine jj_getR (pc := 122) hX (x := some 14) fl_X25_38_25 dX25_about_122 rfl rfl rfl ?_
      refine jj_iload_n (pc := 125) hX dX25_about_125 rfl ?_
      refine jj_iald (pc := 126) hX (nv t) dX25_about_126 rfl rfl e9 ⟨by omega, by omega⟩ ?_
      refine jj_iret (pc := 127) hX dX25_about_127 hr ⟨Nat.le_refl _, Nat.le_refl _⟩ ?_
      unfold m_about
      rw [if_pos ht9, if_pos (by decide)]
      exact ⟨rfl, rfl, rfl, rfl, rfl⟩
    · refine jj_tabIn (pc := 11) hX 128 dX25_about_11 (by decide) (by decide) rfl rfl ?_
      refine jj_aload_n (pc := 128) hX dX25_about_128 rfl ?_
      refine jj_getR (pc := 129) hX (x := some 19) fl_X25_53_25 dX25_about_129 rfl rfl rfl ?_
      refine jj_iload_n (pc := 132) hX dX25_about_132 rfl ?_
      refine jj_iald (pc := 133) hX (nv t) dX25_about_133 rfl rfl e9 ⟨by omega, by omega⟩ ?_
      refine jj_iret (pc := 134) hX dX25_about_134 hr ⟨Nat.le_refl _, Nat.le_refl _⟩ ?_
      unfold m_about
      rw [if_pos ht9, if_pos (by decide)]
      exact ⟨rfl, rfl, rfl, rfl, rfl⟩
    · refine jj_tabIn (pc := 11) hX 135 dX25_about_11 (by decide) (by decide) rfl rfl ?_
      refine jj_aload_n (pc := 135) hX dX25_about_135 rfl ?_
      refine jj_getR (pc := 136) hX (x := some 18) fl_X25_50_25 dX25_about_136 rfl rfl rfl ?_
      refine jj_iload_n (pc := 139) hX dX25_about_139 rfl ?_
      refine jj_iald (pc := 140) hX (nv t) dX25_about_140 rfl rfl e9 ⟨by omega, by omega⟩ ?_
      refine jj_iret (pc := 141) hX dX25_about_141 hr ⟨Nat.le_refl _, Nat.le_refl _⟩ ?_
      unfold m_about
      rw [if_pos ht9, if_pos (by decide)]
      exact ⟨rfl, rfl, rfl, rfl, rfl⟩
    · refine jj_tabIn (pc := 11) hX 142 dX25_about_11 (by decide) (by decide) rfl rfl ?_
      refine jj_aload_n (pc := 142) hX dX25_about_142 rfl ?_
      refine jj_getR (pc := 143) hX (x := some 32) fl_X25_93_25 dX25_about_143 rfl rfl rfl ?_
      refine jj_iload_n (pc := 146) hX dX25_about_146 rfl ?_
      refine jj_iald (pc := 147) hX (nv t) dX25_about_147 rfl rfl e9 ⟨by omega, by omega⟩ ?_
      refine jj_iret (pc := 148) hX dX25_about_148 hr ⟨Nat.le_refl _, Nat.le_refl _⟩ ?_
      unfold m_about
      rw [if_pos ht9, if_pos (by decide)]
      exact ⟨rfl, rfl, rfl, rfl, rfl⟩
    · refine jj_tabIn (pc := 11) hX 149 dX25_about_11 (by decide) (by decide) rfl rfl ?_
      refine jj_aload_n (pc := 149) hX dX25_about_149 rfl ?_
      refine jj_getR (pc := 150) hX (x := some 34) fl_X25_99_25 dX25_about_150 rfl rfl rfl ?_
      refine jj_iload_n (pc := 153) hX dX25_about_153 rfl ?_
      refine jj_iald (pc := 154) hX (nv t) dX25_about_154 rfl rfl e9 ⟨by omega, by omega⟩ ?_
      refine jj_iret (pc := 155) hX dX25_about_155 hr ⟨Nat.le_refl _, Nat.le_refl _⟩ ?_
      unfold m_about
      rw [if_pos ht9, if_pos (by decide)]
      exact ⟨rfl, rfl, rfl, rfl, rfl⟩
    · refine jj_tabIn (pc := 11) hX 156 dX25_about_11 (by decide) (by decide) rfl rfl ?_
      refine jj_aload_n (pc := 156) hX dX25_about_156 rfl ?_
      refine jj_iload_n (pc := 157) hX dX25_about_157 rfl ?_
      refine jj_top (nI (nv t)) e9 ?_
      refine jj_callV (pc := 158) hX (w_waits X.1 σ _ hv l9) dX25_about_158 (lw_V q1668 q1670 qs32 q78 q1671) rfl ⟨by decide +kernel, by decide +kernel, by show _ = some (1 : Nat); decide +kernel⟩ ⟨Nat.le_of_ble_eq_true rfl, Nat.le_of_ble_eq_true rfl, Nat.le_of_ble_eq_true rfl, Nat.le_of_ble_eq_true rfl, Nat.le_of_ble_eq_true rfl⟩ (fun q => by cases q) rfl jc_25 rfl (jj_keq ?_) jj_kno
      refine jj_iret (pc := 161) hX dX25_about_161 hr ⟨Nat.le_refl _, Nat.le_refl _⟩ ?_
      unfold m_about
      rw [if_pos ht9, if_pos (by decide)]
      exact ⟨rfl, rfl, rfl, rfl, rfl⟩
    · refine jj_tabIn (pc := 11) hX 162 dX25_about_11 (by decide) (by decide) rfl rfl ?_
      refine jj_aload_n (pc := 162) hX dX25_about_162 rfl ?_
      refine jj_getR (pc := 163) hX (x := some 15) fl_X25_41_25 dX25_about_163 rfl rfl rfl ?_
      refine jj_iload_n (pc := 166) hX dX25_about_166 rfl ?_
      refine jj_iald (pc := 167) hX (nv t) dX25_about_167 rfl rfl e9 ⟨by omega, by omega⟩ ?_
      refine jj_iconst (pc := 168) hX (v := 4) dX25_about_168 (by decide) ?_
      refine jj_icmp_ne (pc := 169) hX 177 dX25_about_169 rfl (fun h169 => ?_) (fun h169 => ?_)
      · refine jj_aload_n (pc := 177) hX dX25_about_177 rfl ?_
        refine jj_getR (pc := 178) hX (x := some 22) fl_X25_62_25 dX25_about_178 rfl rfl rfl ?_
        refine jj_iload_n (pc := 181) hX dX25_about_181 rfl ?_
        refine jj_iald (pc := 182) hX (nv t) dX25_about_182 rfl rfl e9 ⟨by omega, by omega⟩ ?_
        refine jj_iret (pc := 183) hX dX25_about_183 hr ⟨Nat.le_refl _, Nat.le_refl _⟩ ?_
        unfold m_about
        rw [if_pos ht9, if_pos (by decide)]
        show jj_eq (some (jI (if σ.1 15 (nv t) = 4 then _ else _))) _ _ _ _ _ _ _ _ _
        rw [if_neg h169]
        exact ⟨rfl, rfl, rfl, rfl, rfl⟩
      · refine jj_bipush (pc := 172) hX (v := (-4)) dX25_about_172 (by decide) ?_
        refine jj_goto (pc := 174) hX 183 dX25_about_174 rfl ?_
        refine jj_iret (pc := 183) hX dX25_about_183 hr ⟨Nat.le_refl _, Nat.le_refl _⟩ ?_
        unfold m_about
        rw [if_pos ht9, if_pos (by decide)]
        show jj_eq (some (jI (if σ.1 15 (nv t) = 4 then _ else _))) _ _ _ _ _ _ _ _ _
        rw [if_pos h169]
        exact ⟨rfl, rfl, rfl, rfl, rfl⟩
    · refine jj_tabIn (pc := 11) hX 184 dX25_about_11 (by decide) (by decide) rfl rfl ?_
      refine jj_aload_n (pc := 184) hX dX25_about_184 rfl ?_
      refine jj_getR (pc := 185) hX (x := some 23) fl_X25_65_25 dX25_about_185 rfl rfl rfl ?_
      refine jj_iload_n (pc := 188) hX dX25_about_188 rfl ?_
      refine jj_iald (pc := 189) hX (nv t) dX25_about_189 rfl rfl e9 ⟨by omega, by omega⟩ ?_
      refine jj_iret (pc := 190) hX dX25_about_190 hr ⟨Nat.le_refl _, Nat.le_refl _⟩ ?_
      unfold m_about
      rw [if_pos ht9, if_pos (by decide)]
      exact ⟨rfl, rfl, rfl, rfl, rfl⟩
    · refine jj_tabOut (pc := 11) hX 191 dX25_about_11 (c14_t hw) rfl ?_
      refine jj_iconst (pc := 191) hX (v := (-1)) dX25_about_191 (by decide) ?_
      refine jj_iret (pc := 192) hX dX25_about_192 hr ⟨Nat.le_refl _, Nat.le_refl _⟩ ?_
      unfold m_about
      rw [if_pos ht9, if_neg (fun q => hw.elim (fun z => absurd q.1 (Int32.not_le.mpr z)) (fun z => absurd q.2 (Int32.not_le.mpr z)))]
      exact ⟨rfl, rfl, rfl, rfl, rfl⟩
  · refine jj_if_ne (pc := 5) hX 10 dX25_about_5 rfl (fun q => absurd (by decide) q) (fun _ => ?_)
    refine jj_iconst (pc := 8) hX (v := (-1)) dX25_about_8 (by decide) ?_
    refine jj_iret (pc := 9) hX dX25_about_9 hr ⟨Nat.le_refl _, Nat.le_refl _⟩ ?_
    unfold m_about
    rw [if_neg ht9]
    exact ⟨rfl, rfl, rfl, rfl, rfl⟩

theorem w_result (G : jj_G) (σ : jm) (hv : m_inv σ) (t : Int32) : jm_M G yX25_result cX25_result 2 (some .long) 2 46 [jI t] σ σ (some (jL (m_result σ t))) := by
  refine jj_intro "BranchCellsModel" (by decide) rfl (Nat.le_of_ble_eq_true rfl) ?_
  intro X hG hX hr hN hC hF
  subst hG
  refine jj_aload_n (pc := 0) hX dX25_result_0 rfl ?_
  refine jj_iload_n (pc := 1) hX dX25_result_1 rfl ?_
  refine jj_callV (pc := 2) hX (w_isTask X.1 σ _) dX25_result_2 (lw_V q1659 q1661 qs30 q78 q1662) rfl ⟨by decide +kernel, by decide +kernel, by show _ = some (1 : Nat); decide +kernel⟩ ⟨Nat.le_of_ble_eq_true rfl, Nat.le_of_ble_eq_true rfl, Nat.le_of_ble_eq_true rfl, Nat.le_of_ble_eq_true rfl, Nat.le_of_ble_eq_true rfl⟩ (fun q => by cases q) rfl jc_25 rfl (jj_kif (fun ht9 => ?_) (fun ht9 => ?_)) jj_kno
  · obtain ⟨e9, l9⟩ := m_isT.nv hv ht9
    have hT9 := hv.T
    refine jj_if_eq (pc := 5) hX 35 dX25_result_5 rfl (fun q => absurd q (by decide)) (fun _ => ?_)
    refine jj_aload_n (pc := 8) hX dX25_result_8 rfl ?_
    refine jj_getR (pc := 9) hX (x := some 25) fl_X25_71_25 dX25_result_9 rfl rfl rfl ?_
    refine jj_iload_n (pc := 12) hX dX25_result_12 rfl ?_
    refine jj_zald (pc := 13) hX (nv t) dX25_result_13 rfl rfl e9 ⟨by omega, by omega⟩ ?_
    refine jj_if_eq (pc := 14) hX 35 dX25_result_14 rfl (fun h14 => ?_) (fun h14 => ?_)
    · refine jj_lconst (pc := 35) hX (v := 0) dX25_result_35 (by decide) ?_
      refine jj_lret (pc := 36) hX dX25_result_36 hr ⟨Nat.le_refl _, Nat.le_refl _⟩ ?_
      unfold m_result
      rw [if_pos ht9]
      unfold m_res
      rw [if_pos h14]
      exact ⟨rfl, rfl, rfl, rfl, rfl⟩
    · refine jj_aload_n (pc := 17) hX dX25_result_17 rfl ?_
      refine jj_getR (pc := 18) hX (x := some 27) fl_X25_78_25 dX25_result_18 rfl rfl rfl ?_
      refine jj_iload_n (pc := 21) hX dX25_result_21 rfl ?_
      refine jj_zald (pc := 22) hX (nv t) dX25_result_22 rfl rfl e9 ⟨by omega, by omega⟩ ?_
      refine jj_if_ne (pc := 23) hX 35 dX25_result_23 rfl (fun h23 => ?_) (fun h23 => ?_)
      · refine jj_lconst (pc := 35) hX (v := 0) dX25_result_35 (by decide) ?_
        refine jj_lret (pc := 36) hX dX25_result_36 hr ⟨Nat.le_refl _, Nat.le_refl _⟩ ?_
        unfold m_result
        rw [if_pos ht9]
        unfold m_res
        rw [if_neg h14, if_neg h23]
        exact ⟨rfl, rfl, rfl, rfl, rfl⟩
      · refine jj_aload_n (pc := 26) hX dX25_result_26 rfl ?_
        refine jj_getR (pc := 27) hX (x := some 26) fl_X25_75_25 dX25_result_27 rfl rfl rfl ?_
        refine jj_iload_n (pc := 30) hX dX25_result_30 rfl ?_
        refine jj_lald (pc := 31) hX (nv t) dX25_result_31 rfl rfl e9 ⟨by omega, by omega⟩ ?_
        refine jj_goto (pc := 32) hX 36 dX25_result_32 rfl ?_
        refine jj_lret (pc := 36) hX dX25_result_36 hr ⟨Nat.le_refl _, Nat.le_refl _⟩ ?_
        unfold m_result
        rw [if_pos ht9]
        unfold m_res
        rw [if_neg h14, if_pos h23]
        exact ⟨rfl, rfl, rfl, rfl, rfl⟩
  · refine jj_if_eq (pc := 5) hX 35 dX25_result_5 rfl (fun _ => ?_) (fun q => absurd (by decide) q)
    refine jj_lconst (pc := 35) hX (v := 0) dX25_result_35 (by decide) ?_
    refine jj_lret (pc := 36) hX dX25_result_36 hr ⟨Nat.le_refl _, Nat.le_refl _⟩ ?_
    unfold m_result
    rw [if_neg ht9]
    exact ⟨rfl, rfl, rfl, rfl, rfl⟩

theorem w_out (G : jj_G) (σ : jm) (hv : m_inv σ) (t i : Int32) : jm_M G yX25_out cX25_out 3 (some .long) 2 46 [jI t, jI i] σ σ (some (jL (m_out σ t i))) := by
  refine jj_intro "BranchCellsModel" (by decide) rfl (Nat.le_of_ble_eq_true rfl) ?_
  intro X hG hX hr hN hC hF
  subst hG
  refine jj_aload_n (pc := 0) hX dX25_out_0 rfl ?_
  refine jj_iload_n (pc := 1) hX dX25_out_1 rfl ?_
  refine jj_callV (pc := 2) hX (w_isTask X.1 σ _) dX25_out_2 (lw_V q1659 q1661 qs30 q78 q1662) rfl ⟨by decide +kernel, by decide +kernel, by show _ = some (1 : Nat); decide +kernel⟩ ⟨Nat.le_of_ble_eq_true rfl, Nat.le_of_ble_eq_true rfl, Nat.le_of_ble_eq_true rfl, Nat.le_of_ble_eq_true rfl, Nat.le_of_ble_eq_true rfl⟩ (fun q => by cases q) rfl jc_25 rfl (jj_kif (fun ht9 => ?_) (fun ht9 => ?_)) jj_kno
  · obtain ⟨e9, l9⟩ := m_isT.nv hv ht9
    have hT9 := hv.T
    refine jj_if_eq (pc := 5) hX 40 dX25_out_5 rfl (fun q => absurd q (by decide)) (fun _ => ?_)
    refine jj_iload_n (pc := 8) hX dX25_out_8 rfl ?_
    refine jj_i2l (pc := 9) hX dX25_out_9 ?_
    refine jj_lconst (pc := 10) hX (v := 0) dX25_out_10 (by decide) ?_
    refine jj_aload_n (pc := 11) hX dX25_out_11 rfl ?_
    refine jj_getR (pc := 12) hX (x := some 34) fl_X25_99_25 dX25_out_12 rfl rfl rfl ?_
    refine jj_iload_n (pc := 15) hX dX25_out_15 rfl ?_
    refine jj_iald (pc := 16) hX (nv t) dX25_out_16 rfl rfl e9 ⟨by omega, by omega⟩ ?_
    refine jj_iconst (pc := 17) hX (v := 1) dX25_out_17 (by decide) ?_
    refine jj_isub (pc := 18) hX dX25_out_18 ?_
    refine jj_i2l (pc := 19) hX dX25_out_19 ?_
    refine jj_callS (pc := 20) hX (w_in X.1 _ _ _ _ _ _ _) dX25_out_20 (lw_S q1588 q1589 q78 q1590) ⟨by decide +kernel, by decide +kernel, by show _ = some (3 : Nat); decide +kernel⟩ ⟨Nat.le_of_ble_eq_true rfl, Nat.le_of_ble_eq_true rfl, Nat.le_of_ble_eq_true rfl, Nat.le_of_ble_eq_true rfl, Nat.le_of_ble_eq_true rfl⟩ (fun q => by cases q) rfl (jj_kif (fun hi9 => ?_) (fun hi9 => ?_)) jj_kno
    · obtain ⟨e8, l8⟩ := in_b (hv.tk _ l9).po.2.1 (by have := (hv.tk _ l9).po.2.2; omega) hi9
      have hO9 := (hv.tk _ l9).po.2.2
      refine jj_if_eq (pc := 23) hX 40 dX25_out_23 rfl (fun q => absurd q (by decide)) (fun _ => ?_)
      refine jj_aload_n (pc := 26) hX dX25_out_26 rfl ?_
      refine jj_getR (pc := 27) hX (x := some 33) fl_X25_96_25 dX25_out_27 rfl rfl rfl ?_
      refine jj_bipush (pc := 30) hX (v := 60) dX25_out_30 (by decide) ?_
      refine jj_iload_n (pc := 32) hX dX25_out_32 rfl ?_
      refine jj_imul (pc := 33) hX dX25_out_33 ?_
      refine jj_iload_n (pc := 34) hX dX25_out_34 rfl ?_
      refine jj_iadd (pc := 35) hX dX25_out_35 ?_
      refine jj_lald (pc := 36) hX ((60 * nv t) + nv i) dX25_out_36 rfl rfl (ix_add (ix_mul rfl e9) e8) ⟨by omega, by omega⟩ ?_
      refine jj_goto (pc := 37) hX 41 dX25_out_37 rfl ?_
      refine jj_lret (pc := 41) hX dX25_out_41 hr ⟨Nat.le_refl _, Nat.le_refl _⟩ ?_
      unfold m_out
      rw [if_pos ht9, if_pos hi9]
      exact ⟨rfl, rfl, rfl, rfl, rfl⟩
    · refine jj_if_eq (pc := 23) hX 40 dX25_out_23 rfl (fun _ => ?_) (fun q => absurd (by decide) q)
      refine jj_lconst (pc := 40) hX (v := 0) dX25_out_40 (by decide) ?_
      refine jj_lret (pc := 41) hX dX25_out_41 hr ⟨Nat.le_refl _, Nat.le_refl _⟩ ?_
      unfold m_out
      rw [if_pos ht9, if_neg hi9]
      exact ⟨rfl, rfl, rfl, rfl, rfl⟩
  · refine jj_if_eq (pc := 5) hX 40 dX25_out_5 rfl (fun _ => ?_) (fun q => absurd (by decide) q)
    refine jj_lconst (pc := 40) hX (v := 0) dX25_out_40 (by decide) ?_
    refine jj_lret (pc := 41) hX dX25_out_41 hr ⟨Nat.le_refl _, Nat.le_refl _⟩ ?_
    unfold m_out
    rw [if_neg ht9]
    exact ⟨rfl, rfl, rfl, rfl, rfl⟩

theorem w_read (G : jj_G) (σ : jm) (hv : m_inv σ) (t c : Int32) : jm_M G yX25_read cX25_read 3 (some .long) 2 46 [jI t, jI c] σ σ (some (jL (m_read σ t c))) := by
  refine jj_intro "BranchCellsModel" (by decide) rfl (Nat.le_of_ble_eq_true rfl) ?_
  intro X hG hX hr hN hC hF
  subst hG
  refine jj_aload_n (pc := 0) hX dX25_read_0 rfl ?_
  refine jj_iload_n (pc := 1) hX dX25_read_1 rfl ?_
  refine jj_callV (pc := 2) hX (w_isTask X.1 σ _) dX25_read_2 (lw_V q1659 q1661 qs30 q78 q1662) rfl ⟨by decide +kernel, by decide +kernel, by show _ = some (1 : Nat); decide +kernel⟩ ⟨Nat.le_of_ble_eq_true rfl, Nat.le_of_ble_eq_true rfl, Nat.le_of_ble_eq_true rfl, Nat.le_of_ble_eq_true rfl, Nat.le_of_ble_eq_true rfl⟩ (fun q => by cases q) rfl jc_25 rfl (jj_kif (fun ht9 => ?_) (fun ht9 => ?_)) jj_kno
  · obtain ⟨e9, l9⟩ := m_isT.nv hv ht9
    have hT9 := hv.T
    refine jj_if_eq (pc := 5) hX 44 dX25_read_5 rfl (fun q => absurd q (by decide)) (fun _ => ?_)
    refine jj_iload_n (pc := 8) hX dX25_read_8 rfl ?_
    refine jj_i2l (pc := 9) hX dX25_read_9 ?_
    refine jj_lconst (pc := 10) hX (v := 0) dX25_read_10 (by decide) ?_
    refine jj_ldc2 (pc := 11) hX (v := 15) q1592 dX25_read_11 ?_
    refine jj_callS (pc := 14) hX (w_in X.1 _ _ _ _ _ _ _) dX25_read_14 (lw_S q1588 q1589 q78 q1590) ⟨by decide +kernel, by decide +kernel, by show _ = some (3 : Nat); decide +kernel⟩ ⟨Nat.le_of_ble_eq_true rfl, Nat.le_of_ble_eq_true rfl, Nat.le_of_ble_eq_true rfl, Nat.le_of_ble_eq_true rfl, Nat.le_of_ble_eq_true rfl⟩ (fun q => by cases q) rfl (jj_kif (fun hi9 => ?_) (fun hi9 => ?_)) jj_kno
    · obtain ⟨e8, l8⟩ := in_k 15 rfl hi9
      refine jj_if_eq (pc := 17) hX 44 dX25_read_17 rfl (fun q => absurd q (by decide)) (fun _ => ?_)
      refine jj_aload_n (pc := 20) hX dX25_read_20 rfl ?_
      refine jj_getR (pc := 21) hX (x := some 15) fl_X25_41_25 dX25_read_21 rfl rfl rfl ?_
      refine jj_iload_n (pc := 24) hX dX25_read_24 rfl ?_
      refine jj_iald (pc := 25) hX (nv t) dX25_read_25 rfl rfl e9 ⟨by omega, by omega⟩ ?_
      refine jj_iconst (pc := 26) hX (v := 4) dX25_read_26 (by decide) ?_
      refine jj_icmp_eq (pc := 27) hX 44 dX25_read_27 rfl (fun h27 => ?_) (fun h27 => ?_)
      · refine jj_lconst (pc := 44) hX (v := 0) dX25_read_44 (by decide) ?_
        refine jj_lret (pc := 45) hX dX25_read_45 hr ⟨Nat.le_refl _, Nat.le_refl _⟩ ?_
        unfold m_read
        rw [if_pos ht9, if_pos hi9, if_pos h27]
        exact ⟨rfl, rfl, rfl, rfl, rfl⟩
      · refine jj_aload_n (pc := 30) hX dX25_read_30 rfl ?_
        refine jj_aload_n (pc := 31) hX dX25_read_31 rfl ?_
        refine jj_getR (pc := 32) hX (x := some 22) fl_X25_62_25 dX25_read_32 rfl rfl rfl ?_
        refine jj_iload_n (pc := 35) hX dX25_read_35 rfl ?_
        refine jj_iald (pc := 36) hX (nv t) dX25_read_36 rfl rfl e9 ⟨by omega, by omega⟩ ?_
        refine jj_iload_n (pc := 37) hX dX25_read_37 rfl ?_
        refine jj_top (nI (nv c)) e8 ?_
        refine jj_callV (pc := 38) hX (w_readFrom X.1 σ _ _ l8 hv.und (hv.rd l9)) dX25_read_38 (lw_V q1697 q1699 qs38 q78 q1700) rfl ⟨by decide +kernel, by decide +kernel, by show _ = some (2 : Nat); decide +kernel⟩ ⟨Nat.le_of_ble_eq_true rfl, Nat.le_of_ble_eq_true rfl, Nat.le_of_ble_eq_true rfl, Nat.le_of_ble_eq_true rfl, Nat.le_of_ble_eq_true rfl⟩ (fun q => by cases q) rfl jc_25 rfl (jj_keq ?_) jj_kno
        refine jj_goto (pc := 41) hX 45 dX25_read_41 rfl ?_
        refine jj_lret (pc := 45) hX dX25_read_45 hr ⟨Nat.le_refl _, Nat.le_refl _⟩ ?_
        unfold m_read
        rw [if_pos ht9, if_pos hi9, if_neg h27]
        exact ⟨rfl, rfl, rfl, rfl, rfl⟩
    · refine jj_if_eq (pc := 17) hX 44 dX25_read_17 rfl (fun _ => ?_) (fun q => absurd (by decide) q)
      refine jj_lconst (pc := 44) hX (v := 0) dX25_read_44 (by decide) ?_
      refine jj_lret (pc := 45) hX dX25_read_45 hr ⟨Nat.le_refl _, Nat.le_refl _⟩ ?_
      unfold m_read
      rw [if_pos ht9, if_neg hi9]
      exact ⟨rfl, rfl, rfl, rfl, rfl⟩
  · refine jj_if_eq (pc := 5) hX 44 dX25_read_5 rfl (fun _ => ?_) (fun q => absurd (by decide) q)
    refine jj_lconst (pc := 44) hX (v := 0) dX25_read_44 (by decide) ?_
    refine jj_lret (pc := 45) hX dX25_read_45 hr ⟨Nat.le_refl _, Nat.le_refl _⟩ ?_
    unfold m_read
    rw [if_neg ht9]
    exact ⟨rfl, rfl, rfl, rfl, rfl⟩

theorem w_mark (G : jj_G) (σ : jm) (hv : m_inv σ) (t : Int32) : jm_M G yX25_mark cX25_mark 2 (some .long) 2 46 [jI t] σ σ (some (jL (m_mark σ t))) := by
  refine jj_intro "BranchCellsModel" (by decide) rfl (Nat.le_of_ble_eq_true rfl) ?_
  intro X hG hX hr hN hC hF
  subst hG
  refine jj_aload_n (pc := 0) hX dX25_mark_0 rfl ?_
  refine jj_iload_n (pc := 1) hX dX25_mark_1 rfl ?_
  refine jj_callV (pc := 2) hX (w_isTask X.1 σ _) dX25_mark_2 (lw_V q1659 q1661 qs30 q78 q1662) rfl ⟨by decide +kernel, by decide +kernel, by show _ = some (1 : Nat); decide +kernel⟩ ⟨Nat.le_of_ble_eq_true rfl, Nat.le_of_ble_eq_true rfl, Nat.le_of_ble_eq_true rfl, Nat.le_of_ble_eq_true rfl, Nat.le_of_ble_eq_true rfl⟩ (fun q => by cases q) rfl jc_25 rfl (jj_kif (fun ht9 => ?_) (fun ht9 => ?_)) jj_kno
  · obtain ⟨e9, l9⟩ := m_isT.nv hv ht9
    have hT9 := hv.T
    refine jj_if_eq (pc := 5) hX 17 dX25_mark_5 rfl (fun q => absurd q (by decide)) (fun _ => ?_)
    refine jj_aload_n (pc := 8) hX dX25_mark_8 rfl ?_
    refine jj_getR (pc := 9) hX (x := some 24) fl_X25_68_25 dX25_mark_9 rfl rfl rfl ?_
    refine jj_iload_n (pc := 12) hX dX25_mark_12 rfl ?_
    refine jj_lald (pc := 13) hX (nv t) dX25_mark_13 rfl rfl e9 ⟨by omega, by omega⟩ ?_
    refine jj_goto (pc := 14) hX 18 dX25_mark_14 rfl ?_
    refine jj_lret (pc := 18) hX dX25_mark_18 hr ⟨Nat.le_refl _, Nat.le_refl _⟩ ?_
    unfold m_mark
    rw [if_pos ht9]
    exact ⟨rfl, rfl, rfl, rfl, rfl⟩
  · refine jj_if_eq (pc := 5) hX 17 dX25_mark_5 rfl (fun _ => ?_) (fun q => absurd (by decide) q)
    refine jj_lconst (pc := 17) hX (v := 0) dX25_mark_17 (by decide) ?_
    refine jj_lret (pc := 18) hX dX25_mark_18 hr ⟨Nat.le_refl _, Nat.le_refl _⟩ ?_
    unfold m_mark
    rw [if_neg ht9]
    exact ⟨rfl, rfl, rfl, rfl, rfl⟩


abbrev m_isB (σ : jm) (b : Int32) : Prop := (0 : Int64) ≤ b.toInt64 ∧ b.toInt64 ≤ (σ.1 0 0 - 1).toInt64
abbrev m_isM (σ : jm) (b : Int32) : Prop := (0 : Int64) ≤ b.toInt64 ∧ b.toInt64 ≤ (σ.1 0 4 - 1).toInt64
def m_blockS (σ : jm) : jm := if σ.1 0 0 = 8 then σ else m_u (m_u σ 2 (nv (σ.1 0 0)) 0) 0 0 (σ.1 0 0 + 1)
def m_blockV (σ : jm) : Int32 := if σ.1 0 0 = 8 then -3 else σ.1 0 0 + 1 - 1
def m_mergerS (σ : jm) : jm := if σ.1 0 4 = 4 then σ else m_u (m_u σ 6 (nv (σ.1 0 4)) 0) 0 4 (σ.1 0 4 + 1)
def m_mergerV (σ : jm) : Int32 := if σ.1 0 4 = 4 then -3 else σ.1 0 4 + 1 - 1
def m_actS (σ : jm) (b op a : Int32) : jm := if m_isM σ b then (if (0 : Int64) ≤ op.toInt64 ∧ op.toInt64 ≤ (10 : Int64) then (if σ.1 0 10 = 0 then (if σ.1 6 (nv b) = 12 then σ else
  m_u (m_u (m_u σ 7 (12 * nv b + nv (σ.1 6 (nv b))) op) 8 (12 * nv b + nv (σ.1 6 (nv b))) a) 6 (nv b) (σ.1 6 (nv b) + 1)) else σ) else σ) else σ
def m_actV (σ : jm) (b op a : Int32) : Int32 := if m_isM σ b then (if (0 : Int64) ≤ op.toInt64 ∧ op.toInt64 ≤ (10 : Int64) then (if σ.1 0 10 = 0 then (if σ.1 6 (nv b) = 12 then -3 else σ.1 6 (nv b) + 1) else -2) else -1) else -1
def m_isRight (σ : jm) (b : Int32) : Int32 := if m_isM σ b then (if m_right (nv b) σ = true then 1 else 0) else -1
def m_tellsS (σ : jm) (b : Int32) (x y z : Int64) : jm := if m_isM σ b then (if m_right (nv b) σ = true then m_told (nv b) x y z σ else σ) else σ
def m_tellsV (σ : jm) (b : Int32) (x y z : Int64) : Int64 := if m_isM σ b then (if m_right (nv b) σ = true then (m_told (nv b) x y z σ).2 10 0 else -4) else -1
def m_kindS (σ : jm) (c k : Int32) : jm := if (0 : Int64) ≤ c.toInt64 ∧ c.toInt64 ≤ (15 : Int64) then (if (0 : Int64) ≤ k.toInt64 ∧ k.toInt64 ≤ (6 : Int64) then (if σ.1 0 10 = 0 then (if k - 3 < σ.1 0 4 then m_u σ 9 (nv c) k else σ) else σ) else σ) else σ
def m_kindV (σ : jm) (c k : Int32) : Int32 := if (0 : Int64) ≤ c.toInt64 ∧ c.toInt64 ≤ (15 : Int64) then (if (0 : Int64) ≤ k.toInt64 ∧ k.toInt64 ≤ (6 : Int64) then (if σ.1 0 10 = 0 then (if k - 3 < σ.1 0 4 then σ.1 9 (nv c) else -2) else -2) else -1) else -1
abbrev m_codeOk (op a : Int32) : Prop := ((op = 1 ∨ op = 2) → (0 : Int64) ≤ a.toInt64 ∧ a.toInt64 ≤ (15 : Int64)) ∧ ((op = 12 ∨ op = 13) → (0 : Int64) ≤ a.toInt64 ∧ a.toInt64 ≤ (40 : Int64)) ∧ ((op = 14 ∨ op = 15 ∨ op = 17) → (0 : Int64) ≤ a.toInt64 ∧ a.toInt64 ≤ (7 : Int64))

def m_codeS (σ : jm) (b op a : Int32) : jm := if m_isB σ b then (if (0 : Int64) ≤ op.toInt64 ∧ op.toInt64 ≤ (21 : Int64) then (if m_codeOk op a then (if σ.1 0 10 = 0 then (if σ.1 2 (nv b) = 40 then σ else
  m_u (m_u (m_u σ 3 (40 * nv b + nv (σ.1 2 (nv b))) op) 4 (40 * nv b + nv (σ.1 2 (nv b))) a) 2 (nv b) (σ.1 2 (nv b) + 1)) else σ) else σ) else σ) else σ
def m_codeV (σ : jm) (b op a : Int32) : Int32 := if m_isB σ b then (if (0 : Int64) ≤ op.toInt64 ∧ op.toInt64 ≤ (21 : Int64) then (if m_codeOk op a then (if σ.1 0 10 = 0 then (if σ.1 2 (nv b) = 40 then -3 else σ.1 2 (nv b) + 1) else -2) else -1) else -1) else -1

theorem w_block (G : jj_G) (σ : jm) (hv : m_inv σ) : jm_M G yX25_block cX25_block 1 (some .int) 0 0 [] σ (m_blockS σ) (some (jI (m_blockV σ))) := by
  refine jj_intro "BranchCellsModel" (by decide) rfl (Nat.le_of_ble_eq_true rfl) ?_
  intro X hG hX hr hN hC hF
  subst hG
  refine jj_aload_n (pc := 0) hX dX25_block_0 rfl ?_
  refine jj_getI (pc := 1) hX fl_X25_114_25 dX25_block_1 rfl rfl ?_
  refine jj_bipush (pc := 4) hX (v := 8) dX25_block_4 (by decide) ?_
  refine jj_icmp_ne (pc := 6) hX 12 dX25_block_6 rfl (fun h6 => ?_) (fun h6 => ?_)
  · have hb9 : nv (σ.1 0 0) < 8 := by
      rcases Nat.lt_or_ge (nv (σ.1 0 0)) 8 with q | q
      · exact q
      · exact absurd (by have h8 := hv.bl.2; rw [hv.bl.1, show nv (σ.1 0 0) = 8 by omega]; rfl) h6
    refine jj_aload_n (pc := 12) hX dX25_block_12 rfl ?_
    refine jj_getR (pc := 13) hX (x := some 2) fl_X25_7_25 dX25_block_13 rfl rfl rfl ?_
    refine jj_aload_n (pc := 16) hX dX25_block_16 rfl ?_
    refine jj_getI (pc := 17) hX fl_X25_114_25 dX25_block_17 rfl rfl ?_
    refine jj_iconst (pc := 20) hX (v := 0) dX25_block_20 (by decide) ?_
    refine jj_iast (pc := 21) hX (nv (σ.1 0 0)) dX25_block_21 rfl hv.bl.1 ⟨by omega, by omega⟩ ?_
    refine jj_aload_n (pc := 22) hX dX25_block_22 rfl ?_
    refine jj_dup (pc := 23) hX dX25_block_23 rfl ?_
    refine jj_getI (pc := 24) hX fl_X25_114_25 dX25_block_24 rfl rfl ?_
    refine jj_iconst (pc := 27) hX (v := 1) dX25_block_27 (by decide) ?_
    refine jj_iadd (pc := 28) hX dX25_block_28 ?_
    refine jj_putI (pc := 29) hX fl_X25_114_25 dX25_block_29 rfl rfl rfl ?_
    refine jj_aload_n (pc := 32) hX dX25_block_32 rfl ?_
    refine jj_getI (pc := 33) hX fl_X25_114_25 dX25_block_33 rfl rfl ?_
    refine jj_iconst (pc := 36) hX (v := 1) dX25_block_36 (by decide) ?_
    refine jj_isub (pc := 37) hX dX25_block_37 ?_
    refine jj_iret (pc := 38) hX dX25_block_38 hr ⟨Nat.le_refl _, Nat.le_refl _⟩ ?_
    unfold m_blockS
    rw [if_neg h6]
    unfold m_blockV
    rw [if_neg h6]
    exact ⟨rfl, rfl, rfl, rfl, rfl⟩
  · refine jj_bipush (pc := 9) hX (v := (-3)) dX25_block_9 (by decide) ?_
    refine jj_iret (pc := 11) hX dX25_block_11 hr ⟨Nat.le_refl _, Nat.le_refl _⟩ ?_
    unfold m_blockS
    rw [if_pos h6]
    unfold m_blockV
    rw [if_pos h6]
    exact ⟨rfl, rfl, rfl, rfl, rfl⟩

theorem w_merger (G : jj_G) (σ : jm) (hv : m_inv σ) : jm_M G yX25_merger cX25_merger 1 (some .int) 0 0 [] σ (m_mergerS σ) (some (jI (m_mergerV σ))) := by
  refine jj_intro "BranchCellsModel" (by decide) rfl (Nat.le_of_ble_eq_true rfl) ?_
  intro X hG hX hr hN hC hF
  subst hG
  refine jj_aload_n (pc := 0) hX dX25_merger_0 rfl ?_
  refine jj_getI (pc := 1) hX fl_X25_134_25 dX25_merger_1 rfl rfl ?_
  refine jj_iconst (pc := 4) hX (v := 4) dX25_merger_4 (by decide) ?_
  refine jj_icmp_ne (pc := 5) hX 11 dX25_merger_5 rfl (fun h5 => ?_) (fun h5 => ?_)
  · have hb9 : nv (σ.1 0 4) < 4 := by
      rcases Nat.lt_or_ge (nv (σ.1 0 4)) 4 with q | q
      · exact q
      · exact absurd (by have h8 := hv.me.2; rw [hv.me.1, show nv (σ.1 0 4) = 4 by omega]; rfl) h5
    refine jj_aload_n (pc := 11) hX dX25_merger_11 rfl ?_
    refine jj_getR (pc := 12) hX (x := some 6) fl_X25_19_25 dX25_merger_12 rfl rfl rfl ?_
    refine jj_aload_n (pc := 15) hX dX25_merger_15 rfl ?_
    refine jj_getI (pc := 16) hX fl_X25_134_25 dX25_merger_16 rfl rfl ?_
    refine jj_iconst (pc := 19) hX (v := 0) dX25_merger_19 (by decide) ?_
    refine jj_iast (pc := 20) hX (nv (σ.1 0 4)) dX25_merger_20 rfl hv.me.1 ⟨by omega, by omega⟩ ?_
    refine jj_aload_n (pc := 21) hX dX25_merger_21 rfl ?_
    refine jj_dup (pc := 22) hX dX25_merger_22 rfl ?_
    refine jj_getI (pc := 23) hX fl_X25_134_25 dX25_merger_23 rfl rfl ?_
    refine jj_iconst (pc := 26) hX (v := 1) dX25_merger_26 (by decide) ?_
    refine jj_iadd (pc := 27) hX dX25_merger_27 ?_
    refine jj_putI (pc := 28) hX fl_X25_134_25 dX25_merger_28 rfl rfl rfl ?_
    refine jj_aload_n (pc := 31) hX dX25_merger_31 rfl ?_
    refine jj_getI (pc := 32) hX fl_X25_134_25 dX25_merger_32 rfl rfl ?_
    refine jj_iconst (pc := 35) hX (v := 1) dX25_merger_35 (by decide) ?_
    refine jj_isub (pc := 36) hX dX25_merger_36 ?_
    refine jj_iret (pc := 37) hX dX25_merger_37 hr ⟨Nat.le_refl _, Nat.le_refl _⟩ ?_
    unfold m_mergerS
    rw [if_neg h5]
    unfold m_mergerV
    rw [if_neg h5]
    exact ⟨rfl, rfl, rfl, rfl, rfl⟩
  · refine jj_bipush (pc := 8) hX (v := (-3)) dX25_merger_8 (by decide) ?_
    refine jj_iret (pc := 10) hX dX25_merger_10 hr ⟨Nat.le_refl _, Nat.le_refl _⟩ ?_
    unfold m_mergerS
    rw [if_pos h5]
    unfold m_mergerV
    rw [if_pos h5]
    exact ⟨rfl, rfl, rfl, rfl, rfl⟩

theorem w_act (G : jj_G) (σ : jm) (hv : m_inv σ) (b op a : Int32) : jm_M G yX25_act cX25_act 4 (some .int) 1 25 [jI b, jI op, jI a] σ (m_actS σ b op a) (some (jI (m_actV σ b op a))) := by
  refine jj_intro "BranchCellsModel" (by decide) rfl (Nat.le_of_ble_eq_true rfl) ?_
  intro X hG hX hr hN hC hF
  subst hG
  refine jj_iload_n (pc := 0) hX dX25_act_0 rfl ?_
  refine jj_i2l (pc := 1) hX dX25_act_1 ?_
  refine jj_lconst (pc := 2) hX (v := 0) dX25_act_2 (by decide) ?_
  refine jj_aload_n (pc := 3) hX dX25_act_3 rfl ?_
  refine jj_getI (pc := 4) hX fl_X25_134_25 dX25_act_4 rfl rfl ?_
  refine jj_iconst (pc := 7) hX (v := 1) dX25_act_7 (by decide) ?_
  refine jj_isub (pc := 8) hX dX25_act_8 ?_
  refine jj_i2l (pc := 9) hX dX25_act_9 ?_
  refine jj_callS (pc := 10) hX (w_in X.1 _ _ _ _ _ _ _) dX25_act_10 (lw_S q1588 q1589 q78 q1590) ⟨by decide +kernel, by decide +kernel, by show _ = some (3 : Nat); decide +kernel⟩ ⟨Nat.le_of_ble_eq_true rfl, Nat.le_of_ble_eq_true rfl, Nat.le_of_ble_eq_true rfl, Nat.le_of_ble_eq_true rfl, Nat.le_of_ble_eq_true rfl⟩ (fun q => by cases q) rfl (jj_kif (fun hb9 => ?_) (fun hb9 => ?_)) jj_kno
  · obtain ⟨e9, l9⟩ := in_b hv.me.1 (by have := hv.me.2; omega) hb9
    have hM9 := hv.me.2
    refine jj_if_eq (pc := 13) hX 28 dX25_act_13 rfl (fun q => absurd q (by decide)) (fun _ => ?_)
    refine jj_iload_n (pc := 16) hX dX25_act_16 rfl ?_
    refine jj_i2l (pc := 17) hX dX25_act_17 ?_
    refine jj_lconst (pc := 18) hX (v := 0) dX25_act_18 (by decide) ?_
    refine jj_ldc2 (pc := 19) hX (v := 10) q1603 dX25_act_19 ?_
    refine jj_callS (pc := 22) hX (w_in X.1 _ _ _ _ _ _ _) dX25_act_22 (lw_S q1588 q1589 q78 q1590) ⟨by decide +kernel, by decide +kernel, by show _ = some (3 : Nat); decide +kernel⟩ ⟨Nat.le_of_ble_eq_true rfl, Nat.le_of_ble_eq_true rfl, Nat.le_of_ble_eq_true rfl, Nat.le_of_ble_eq_true rfl, Nat.le_of_ble_eq_true rfl⟩ (fun q => by cases q) rfl (jj_kif (fun ho9 => ?_) (fun ho9 => ?_)) jj_kno
    · refine jj_if_ne (pc := 25) hX 30 dX25_act_25 rfl (fun _ => ?_) (fun q => absurd q (by decide))
      refine jj_aload_n (pc := 30) hX dX25_act_30 rfl ?_
      refine jj_getI (pc := 31) hX fl_X25_130_25 dX25_act_31 rfl rfl ?_
      refine jj_if_eq (pc := 34) hX 40 dX25_act_34 rfl (fun h34 => ?_) (fun h34 => ?_)
      · refine jj_aload_n (pc := 40) hX dX25_act_40 rfl ?_
        refine jj_getR (pc := 41) hX (x := some 6) fl_X25_19_25 dX25_act_41 rfl rfl rfl ?_
        refine jj_iload_n (pc := 44) hX dX25_act_44 rfl ?_
        refine jj_iald (pc := 45) hX (nv b) dX25_act_45 rfl rfl e9 ⟨by omega, by omega⟩ ?_
        refine jj_bipush (pc := 46) hX (v := 12) dX25_act_46 (by decide) ?_
        refine jj_icmp_ne (pc := 48) hX 54 dX25_act_48 rfl (fun h48 => ?_) (fun h48 => ?_)
        · have hA9 : nv (σ.1 6 (nv b)) < 12 := by
            rcases Nat.lt_or_ge (nv (σ.1 6 (nv b))) 12 with q | q
            · exact q
            · exact absurd (by have h8 := hv.am (nv b) (by omega); rw [h8.1, show nv (σ.1 6 (nv b)) = 12 by have := h8.2; omega]; rfl) h48
          refine jj_aload_n (pc := 54) hX dX25_act_54 rfl ?_
          refine jj_getR (pc := 55) hX (x := some 7) fl_X25_22_25 dX25_act_55 rfl rfl rfl ?_
          refine jj_bipush (pc := 58) hX (v := 12) dX25_act_58 (by decide) ?_
          refine jj_iload_n (pc := 60) hX dX25_act_60 rfl ?_
          refine jj_imul (pc := 61) hX dX25_act_61 ?_
          refine jj_aload_n (pc := 62) hX dX25_act_62 rfl ?_
          refine jj_getR (pc := 63) hX (x := some 6) fl_X25_19_25 dX25_act_63 rfl rfl rfl ?_
          refine jj_iload_n (pc := 66) hX dX25_act_66 rfl ?_
          refine jj_iald (pc := 67) hX (nv b) dX25_act_67 rfl rfl e9 ⟨by omega, by omega⟩ ?_
          refine jj_iadd (pc := 68) hX dX25_act_68 ?_
          refine jj_iload_n (pc := 69) hX dX25_act_69 rfl ?_
          refine jj_iast (pc := 70) hX ((12 * nv b) + nv (σ.1 6 (nv b))) dX25_act_70 rfl (ix_add (ix_mul rfl e9) (hv.am _ (by omega)).1) ⟨by omega, by omega⟩ ?_
          refine jj_aload_n (pc := 71) hX dX25_act_71 rfl ?_
          refine jj_getR (pc := 72) hX (x := some 8) fl_X25_25_25 dX25_act_72 rfl rfl rfl ?_
          refine jj_bipush (pc := 75) hX (v := 12) dX25_act_75 (by decide) ?_
          refine jj_iload_n (pc := 77) hX dX25_act_77 rfl ?_
          refine jj_imul (pc := 78) hX dX25_act_78 ?_
          refine jj_aload_n (pc := 79) hX dX25_act_79 rfl ?_
          refine jj_getR (pc := 80) hX (x := some 6) fl_X25_19_25 dX25_act_80 rfl rfl rfl ?_
          refine jj_iload_n (pc := 83) hX dX25_act_83 rfl ?_
          refine jj_iald (pc := 84) hX (nv b) dX25_act_84 rfl rfl e9 ⟨by omega, by omega⟩ ?_
          refine jj_iadd (pc := 85) hX dX25_act_85 ?_
          refine jj_iload_n (pc := 86) hX dX25_act_86 rfl ?_
          refine jj_iast (pc := 87) hX ((12 * nv b) + nv (σ.1 6 (nv b))) dX25_act_87 rfl (ix_add (ix_mul rfl e9) (hv.am _ (by omega)).1) ⟨by omega, by omega⟩ ?_
          refine jj_aload_n (pc := 88) hX dX25_act_88 rfl ?_
          refine jj_getR (pc := 89) hX (x := some 6) fl_X25_19_25 dX25_act_89 rfl rfl rfl ?_
          refine jj_iload_n (pc := 92) hX dX25_act_92 rfl ?_
          refine jj_dup2 (pc := 93) hX dX25_act_93 rfl rfl ?_
          refine jj_iald (pc := 94) hX (nv b) dX25_act_94 rfl rfl e9 ⟨by omega, by omega⟩ ?_
          refine jj_iconst (pc := 95) hX (v := 1) dX25_act_95 (by decide) ?_
          refine jj_iadd (pc := 96) hX dX25_act_96 ?_
          refine jj_iast (pc := 97) hX (nv b) dX25_act_97 rfl e9 ⟨by omega, by omega⟩ ?_
          refine jj_aload_n (pc := 98) hX dX25_act_98 rfl ?_
          refine jj_getR (pc := 99) hX (x := some 6) fl_X25_19_25 dX25_act_99 rfl rfl rfl ?_
          refine jj_iload_n (pc := 102) hX dX25_act_102 rfl ?_
          refine jj_iald (pc := 103) hX (nv b) dX25_act_103 rfl rfl e9 ⟨by omega, by omega⟩ ?_
          refine jj_top (σ.1 6 (nv b) + 1) (by rw [jj_us, jj_un (Or.inl (by decide)), jj_un (Or.inl (by decide))]) ?_
          refine jj_iret (pc := 104) hX dX25_act_104 hr ⟨Nat.le_refl _, Nat.le_refl _⟩ ?_
          unfold m_actS
          rw [if_pos hb9, if_pos ho9, if_pos h34, if_neg h48]
          unfold m_actV
          rw [if_pos hb9, if_pos ho9, if_pos h34, if_neg h48]
          exact ⟨rfl, rfl, rfl, rfl, rfl⟩
        · refine jj_bipush (pc := 51) hX (v := (-3)) dX25_act_51 (by decide) ?_
          refine jj_iret (pc := 53) hX dX25_act_53 hr ⟨Nat.le_refl _, Nat.le_refl _⟩ ?_
          unfold m_actS
          rw [if_pos hb9, if_pos ho9, if_pos h34, if_pos h48]
          unfold m_actV
          rw [if_pos hb9, if_pos ho9, if_pos h34, if_pos h48]
          exact ⟨rfl, rfl, rfl, rfl, rfl⟩
      · refine jj_bipush (pc := 37) hX (v := (-2)) dX25_act_37 (by decide) ?_
        refine jj_iret (pc := 39) hX dX25_act_39 hr ⟨Nat.le_refl _, Nat.le_refl _⟩ ?_
        unfold m_actS
        rw [if_pos hb9, if_pos ho9, if_neg h34]
        unfold m_actV
        rw [if_pos hb9, if_pos ho9, if_neg h34]
        exact ⟨rfl, rfl, rfl, rfl, rfl⟩
    · refine jj_if_ne (pc := 25) hX 30 dX25_act_25 rfl (fun q => absurd (by decide) q) (fun _ => ?_)
      refine jj_iconst (pc := 28) hX (v := (-1)) dX25_act_28 (by decide) ?_
      refine jj_iret (pc := 29) hX dX25_act_29 hr ⟨Nat.le_refl _, Nat.le_refl _⟩ ?_
      unfold m_actS
      rw [if_pos hb9, if_neg ho9]
      unfold m_actV
      rw [if_pos hb9, if_neg ho9]
      exact ⟨rfl, rfl, rfl, rfl, rfl⟩
  · refine jj_if_eq (pc := 13) hX 28 dX25_act_13 rfl (fun _ => ?_) (fun q => absurd (by decide) q)
    refine jj_iconst (pc := 28) hX (v := (-1)) dX25_act_28 (by decide) ?_
    refine jj_iret (pc := 29) hX dX25_act_29 hr ⟨Nat.le_refl _, Nat.le_refl _⟩ ?_
    unfold m_actS
    rw [if_neg hb9]
    unfold m_actV
    rw [if_neg hb9]
    exact ⟨rfl, rfl, rfl, rfl, rfl⟩

theorem w_isRight (G : jj_G) (σ : jm) (hv : m_inv σ) (b : Int32) : jm_M G yX25_isRight cX25_isRight 2 (some .int) 1 25 [jI b] σ σ (some (jI (m_isRight σ b))) := by
  refine jj_intro "BranchCellsModel" (by decide) rfl (Nat.le_of_ble_eq_true rfl) ?_
  intro X hG hX hr hN hC hF
  subst hG
  refine jj_iload_n (pc := 0) hX dX25_isRight_0 rfl ?_
  refine jj_i2l (pc := 1) hX dX25_isRight_1 ?_
  refine jj_lconst (pc := 2) hX (v := 0) dX25_isRight_2 (by decide) ?_
  refine jj_aload_n (pc := 3) hX dX25_isRight_3 rfl ?_
  refine jj_getI (pc := 4) hX fl_X25_134_25 dX25_isRight_4 rfl rfl ?_
  refine jj_iconst (pc := 7) hX (v := 1) dX25_isRight_7 (by decide) ?_
  refine jj_isub (pc := 8) hX dX25_isRight_8 ?_
  refine jj_i2l (pc := 9) hX dX25_isRight_9 ?_
  refine jj_callS (pc := 10) hX (w_in X.1 _ _ _ _ _ _ _) dX25_isRight_10 (lw_S q1588 q1589 q78 q1590) ⟨by decide +kernel, by decide +kernel, by show _ = some (3 : Nat); decide +kernel⟩ ⟨Nat.le_of_ble_eq_true rfl, Nat.le_of_ble_eq_true rfl, Nat.le_of_ble_eq_true rfl, Nat.le_of_ble_eq_true rfl, Nat.le_of_ble_eq_true rfl⟩ (fun q => by cases q) rfl (jj_kif (fun hb9 => ?_) (fun hb9 => ?_)) jj_kno
  · obtain ⟨e9, l9⟩ := in_b hv.me.1 (by have := hv.me.2; omega) hb9
    have hM9 := hv.me.2
    refine jj_if_ne (pc := 13) hX 20 dX25_isRight_13 rfl (fun _ => ?_) (fun q => absurd q (by decide))
    refine jj_aload_n (pc := 20) hX dX25_isRight_20 rfl ?_
    refine jj_iload_n (pc := 21) hX dX25_isRight_21 rfl ?_
    refine jj_top (nI (nv b)) e9 ?_
    refine jj_callV (pc := 22) hX (w_right X.1 σ _ (by omega) (hv.am _ (by omega))) dX25_isRight_22 (lw_V q1608 q1610 qs24 q78 q1611) rfl ⟨by decide +kernel, by decide +kernel, by show _ = some (1 : Nat); decide +kernel⟩ ⟨Nat.le_of_ble_eq_true rfl, Nat.le_of_ble_eq_true rfl, Nat.le_of_ble_eq_true rfl, Nat.le_of_ble_eq_true rfl, Nat.le_of_ble_eq_true rfl⟩ (fun q => by cases q) rfl jc_25 rfl (jj_kif (fun hr9 => ?_) (fun hr9 => ?_)) jj_kno
    · refine jj_if_eq (pc := 25) hX 32 dX25_isRight_25 rfl (fun q => absurd q (by decide)) (fun _ => ?_)
      refine jj_iconst (pc := 28) hX (v := 1) dX25_isRight_28 (by decide) ?_
      refine jj_goto (pc := 29) hX 33 dX25_isRight_29 rfl ?_
      refine jj_iret (pc := 33) hX dX25_isRight_33 hr ⟨Nat.le_refl _, Nat.le_refl _⟩ ?_
      unfold m_isRight
      rw [if_pos hb9, if_pos hr9]
      exact ⟨rfl, rfl, rfl, rfl, rfl⟩
    · refine jj_if_eq (pc := 25) hX 32 dX25_isRight_25 rfl (fun _ => ?_) (fun q => absurd (by decide) q)
      refine jj_iconst (pc := 32) hX (v := 0) dX25_isRight_32 (by decide) ?_
      refine jj_iret (pc := 33) hX dX25_isRight_33 hr ⟨Nat.le_refl _, Nat.le_refl _⟩ ?_
      unfold m_isRight
      rw [if_pos hb9, if_neg hr9]
      exact ⟨rfl, rfl, rfl, rfl, rfl⟩
  · refine jj_if_ne (pc := 13) hX 20 dX25_isRight_13 rfl (fun q => absurd (by decide) q) (fun _ => ?_)
    refine jj_iconst (pc := 16) hX (v := (-1)) dX25_isRight_16 (by decide) ?_
    refine jj_goto (pc := 17) hX 33 dX25_isRight_17 rfl ?_
    refine jj_iret (pc := 33) hX dX25_isRight_33 hr ⟨Nat.le_refl _, Nat.le_refl _⟩ ?_
    unfold m_isRight
    rw [if_neg hb9]
    exact ⟨rfl, rfl, rfl, rfl, rfl⟩

theorem jj_dn3 {X : jj_X} {Q : State → Prop} {k n pc : Nat} {ls : List (Nat × jj_v)} {u v w : jj_v} {st : List jj_v} {τ : jj_T} {I : jj_I} {L : jj_L} {r : jj_R} {x : Int32} (y : Int32) (h : x = y) (kk : jj_J X Q k n pc ls (u :: v :: w :: jI y :: st) τ I L r) : jj_J X Q k n pc ls (u :: v :: w :: jI x :: st) τ I L r := by rw [h]; exact kk
theorem w_tells (G : jj_G) (σ : jm) (hv : m_inv σ) (b : Int32) (x y z : Int64) : jm_M G yX25_tells cX25_tells 8 (some .long) 2 54 [jI b, jL x, jL y, jL z] σ (m_tellsS σ b x y z) (some (jL (m_tellsV σ b x y z))) := by
  refine jj_intro "BranchCellsModel" (by decide) rfl (Nat.le_of_ble_eq_true rfl) ?_
  intro X hG hX hr hN hC hF
  subst hG
  refine jj_iload_n (pc := 0) hX dX25_tells_0 rfl ?_
  refine jj_i2l (pc := 1) hX dX25_tells_1 ?_
  refine jj_lconst (pc := 2) hX (v := 0) dX25_tells_2 (by decide) ?_
  refine jj_aload_n (pc := 3) hX dX25_tells_3 rfl ?_
  refine jj_getI (pc := 4) hX fl_X25_134_25 dX25_tells_4 rfl rfl ?_
  refine jj_iconst (pc := 7) hX (v := 1) dX25_tells_7 (by decide) ?_
  refine jj_isub (pc := 8) hX dX25_tells_8 ?_
  refine jj_i2l (pc := 9) hX dX25_tells_9 ?_
  refine jj_callS (pc := 10) hX (w_in X.1 _ _ _ _ _ _ _) dX25_tells_10 (lw_S q1588 q1589 q78 q1590) ⟨by decide +kernel, by decide +kernel, by show _ = some (3 : Nat); decide +kernel⟩ ⟨Nat.le_of_ble_eq_true rfl, Nat.le_of_ble_eq_true rfl, Nat.le_of_ble_eq_true rfl, Nat.le_of_ble_eq_true rfl, Nat.le_of_ble_eq_true rfl⟩ (fun q => by cases q) rfl (jj_kif (fun hb9 => ?_) (fun hb9 => ?_)) jj_kno
  · obtain ⟨e9, l9⟩ := in_b hv.me.1 (by have := hv.me.2; omega) hb9
    have hM9 := hv.me.2
    refine jj_if_ne (pc := 13) hX 22 dX25_tells_13 rfl (fun _ => ?_) (fun q => absurd q (by decide))
    refine jj_aload_n (pc := 22) hX dX25_tells_22 rfl ?_
    refine jj_iload_n (pc := 23) hX dX25_tells_23 rfl ?_
    refine jj_top (nI (nv b)) e9 ?_
    refine jj_callV (pc := 24) hX (w_right X.1 σ _ (by omega) (hv.am _ (by omega))) dX25_tells_24 (lw_V q1608 q1610 qs24 q78 q1611) rfl ⟨by decide +kernel, by decide +kernel, by show _ = some (1 : Nat); decide +kernel⟩ ⟨Nat.le_of_ble_eq_true rfl, Nat.le_of_ble_eq_true rfl, Nat.le_of_ble_eq_true rfl, Nat.le_of_ble_eq_true rfl, Nat.le_of_ble_eq_true rfl⟩ (fun q => by cases q) rfl jc_25 rfl (jj_kif (fun hr9 => ?_) (fun hr9 => ?_)) jj_kno
    · refine jj_if_eq (pc := 27) hX 43 dX25_tells_27 rfl (fun q => absurd q (by decide)) (fun _ => ?_)
      refine jj_aload_n (pc := 30) hX dX25_tells_30 rfl ?_
      refine jj_iload_n (pc := 31) hX dX25_tells_31 rfl ?_
      refine jj_lload_n (pc := 32) hX dX25_tells_32 rfl ?_
      refine jj_lload (pc := 33) hX dX25_tells_33 rfl ?_
      refine jj_lload (pc := 35) hX dX25_tells_35 rfl ?_
      refine jj_dn3 (nI (nv b)) e9 ?_
      refine jj_callV (pc := 37) hX (w_told X.1 σ _ x y z (by omega) (hv.am _ (by omega)) (fun k hk => hv.ao _ (by have := (hv.am (nv b) (by omega)).2; omega)) hr9) dX25_tells_37 (lw_V q1617 q1619 qs25 q78 q1620) rfl ⟨by decide +kernel, by decide +kernel, by show _ = some (4 : Nat); decide +kernel⟩ ⟨Nat.le_of_ble_eq_true rfl, Nat.le_of_ble_eq_true rfl, Nat.le_of_ble_eq_true rfl, Nat.le_of_ble_eq_true rfl, Nat.le_of_ble_eq_true rfl⟩ (fun q => by cases q) rfl jc_25 rfl (jj_keq ?_) jj_kno
      refine jj_goto (pc := 40) hX 46 dX25_tells_40 rfl ?_
      refine jj_lret (pc := 46) hX dX25_tells_46 hr ⟨Nat.le_refl _, Nat.le_refl _⟩ ?_
      unfold m_tellsS
      rw [if_pos hb9, if_pos hr9]
      unfold m_tellsV
      rw [if_pos hb9, if_pos hr9]
      exact ⟨rfl, rfl, rfl, rfl, rfl⟩
    · refine jj_if_eq (pc := 27) hX 43 dX25_tells_27 rfl (fun _ => ?_) (fun q => absurd (by decide) q)
      refine jj_ldc2 (pc := 43) hX (v := (-4)) q1624 dX25_tells_43 ?_
      refine jj_lret (pc := 46) hX dX25_tells_46 hr ⟨Nat.le_refl _, Nat.le_refl _⟩ ?_
      unfold m_tellsS
      rw [if_pos hb9, if_neg hr9]
      unfold m_tellsV
      rw [if_pos hb9, if_neg hr9]
      exact ⟨rfl, rfl, rfl, rfl, rfl⟩
  · refine jj_if_ne (pc := 13) hX 22 dX25_tells_13 rfl (fun q => absurd (by decide) q) (fun _ => ?_)
    refine jj_ldc2 (pc := 16) hX (v := (-1)) q1616 dX25_tells_16 ?_
    refine jj_goto (pc := 19) hX 46 dX25_tells_19 rfl ?_
    refine jj_lret (pc := 46) hX dX25_tells_46 hr ⟨Nat.le_refl _, Nat.le_refl _⟩ ?_
    unfold m_tellsS
    rw [if_neg hb9]
    unfold m_tellsV
    rw [if_neg hb9]
    exact ⟨rfl, rfl, rfl, rfl, rfl⟩

theorem w_kind (G : jj_G) (σ : jm) (hv : m_inv σ) (c k : Int32) : jm_M G yX25_kind cX25_kind 4 (some .int) 1 25 [jI c, jI k] σ (m_kindS σ c k) (some (jI (m_kindV σ c k))) := by
  refine jj_intro "BranchCellsModel" (by decide) rfl (Nat.le_of_ble_eq_true rfl) ?_
  intro X hG hX hr hN hC hF
  subst hG
  refine jj_iload_n (pc := 0) hX dX25_kind_0 rfl ?_
  refine jj_i2l (pc := 1) hX dX25_kind_1 ?_
  refine jj_lconst (pc := 2) hX (v := 0) dX25_kind_2 (by decide) ?_
  refine jj_ldc2 (pc := 3) hX (v := 15) q1592 dX25_kind_3 ?_
  refine jj_callS (pc := 6) hX (w_in X.1 _ _ _ _ _ _ _) dX25_kind_6 (lw_S q1588 q1589 q78 q1590) ⟨by decide +kernel, by decide +kernel, by show _ = some (3 : Nat); decide +kernel⟩ ⟨Nat.le_of_ble_eq_true rfl, Nat.le_of_ble_eq_true rfl, Nat.le_of_ble_eq_true rfl, Nat.le_of_ble_eq_true rfl, Nat.le_of_ble_eq_true rfl⟩ (fun q => by cases q) rfl (jj_kif (fun hc9 => ?_) (fun hc9 => ?_)) jj_kno
  · obtain ⟨e9, l9⟩ := in_k 15 rfl hc9
    refine jj_if_eq (pc := 9) hX 24 dX25_kind_9 rfl (fun q => absurd q (by decide)) (fun _ => ?_)
    refine jj_iload_n (pc := 12) hX dX25_kind_12 rfl ?_
    refine jj_i2l (pc := 13) hX dX25_kind_13 ?_
    refine jj_lconst (pc := 14) hX (v := 0) dX25_kind_14 (by decide) ?_
    refine jj_ldc2 (pc := 15) hX (v := 6) q1629 dX25_kind_15 ?_
    refine jj_callS (pc := 18) hX (w_in X.1 _ _ _ _ _ _ _) dX25_kind_18 (lw_S q1588 q1589 q78 q1590) ⟨by decide +kernel, by decide +kernel, by show _ = some (3 : Nat); decide +kernel⟩ ⟨Nat.le_of_ble_eq_true rfl, Nat.le_of_ble_eq_true rfl, Nat.le_of_ble_eq_true rfl, Nat.le_of_ble_eq_true rfl, Nat.le_of_ble_eq_true rfl⟩ (fun q => by cases q) rfl (jj_kif (fun hk9 => ?_) (fun hk9 => ?_)) jj_kno
    · refine jj_if_ne (pc := 21) hX 26 dX25_kind_21 rfl (fun _ => ?_) (fun q => absurd q (by decide))
      refine jj_aload_n (pc := 26) hX dX25_kind_26 rfl ?_
      refine jj_getI (pc := 27) hX fl_X25_130_25 dX25_kind_27 rfl rfl ?_
      refine jj_if_ne (pc := 30) hX 43 dX25_kind_30 rfl (fun h30 => ?_) (fun h30 => ?_)
      · refine jj_bipush (pc := 43) hX (v := (-2)) dX25_kind_43 (by decide) ?_
        refine jj_iret (pc := 45) hX dX25_kind_45 hr ⟨Nat.le_refl _, Nat.le_refl _⟩ ?_
        unfold m_kindS
        rw [if_pos hc9, if_pos hk9, if_neg h30]
        unfold m_kindV
        rw [if_pos hc9, if_pos hk9, if_neg h30]
        exact ⟨rfl, rfl, rfl, rfl, rfl⟩
      · refine jj_iload_n (pc := 33) hX dX25_kind_33 rfl ?_
        refine jj_iconst (pc := 34) hX (v := 3) dX25_kind_34 (by decide) ?_
        refine jj_isub (pc := 35) hX dX25_kind_35 ?_
        refine jj_aload_n (pc := 36) hX dX25_kind_36 rfl ?_
        refine jj_getI (pc := 37) hX fl_X25_134_25 dX25_kind_37 rfl rfl ?_
        refine jj_icmp_lt (pc := 40) hX 46 dX25_kind_40 rfl (fun h40 => ?_) (fun h40 => ?_)
        · refine jj_aload_n (pc := 46) hX dX25_kind_46 rfl ?_
          refine jj_getR (pc := 47) hX (x := some 9) fl_X25_28_25 dX25_kind_47 rfl rfl rfl ?_
          refine jj_iload_n (pc := 50) hX dX25_kind_50 rfl ?_
          refine jj_iald (pc := 51) hX (nv c) dX25_kind_51 rfl rfl e9 ⟨by omega, by omega⟩ ?_
          refine jj_istore_n (pc := 52) hX dX25_kind_52 (by decide) ?_
          refine jj_aload_n (pc := 53) hX dX25_kind_53 rfl ?_
          refine jj_getR (pc := 54) hX (x := some 9) fl_X25_28_25 dX25_kind_54 rfl rfl rfl ?_
          refine jj_iload_n (pc := 57) hX dX25_kind_57 rfl ?_
          refine jj_iload_n (pc := 58) hX dX25_kind_58 rfl ?_
          refine jj_iast (pc := 59) hX (nv c) dX25_kind_59 rfl e9 ⟨by omega, by omega⟩ ?_
          refine jj_iload_n (pc := 60) hX dX25_kind_60 rfl ?_
          refine jj_iret (pc := 61) hX dX25_kind_61 hr ⟨Nat.le_refl _, Nat.le_refl _⟩ ?_
          unfold m_kindS
          rw [if_pos hc9, if_pos hk9, if_pos h30, if_pos h40]
          unfold m_kindV
          rw [if_pos hc9, if_pos hk9, if_pos h30, if_pos h40]
          exact ⟨rfl, rfl, rfl, rfl, rfl⟩
        · refine jj_bipush (pc := 43) hX (v := (-2)) dX25_kind_43 (by decide) ?_
          refine jj_iret (pc := 45) hX dX25_kind_45 hr ⟨Nat.le_refl _, Nat.le_refl _⟩ ?_
          unfold m_kindS
          rw [if_pos hc9, if_pos hk9, if_pos h30, if_neg h40]
          unfold m_kindV
          rw [if_pos hc9, if_pos hk9, if_pos h30, if_neg h40]
          exact ⟨rfl, rfl, rfl, rfl, rfl⟩
    · refine jj_if_ne (pc := 21) hX 26 dX25_kind_21 rfl (fun q => absurd (by decide) q) (fun _ => ?_)
      refine jj_iconst (pc := 24) hX (v := (-1)) dX25_kind_24 (by decide) ?_
      refine jj_iret (pc := 25) hX dX25_kind_25 hr ⟨Nat.le_refl _, Nat.le_refl _⟩ ?_
      unfold m_kindS
      rw [if_pos hc9, if_neg hk9]
      unfold m_kindV
      rw [if_pos hc9, if_neg hk9]
      exact ⟨rfl, rfl, rfl, rfl, rfl⟩
  · refine jj_if_eq (pc := 9) hX 24 dX25_kind_9 rfl (fun _ => ?_) (fun q => absurd (by decide) q)
    refine jj_iconst (pc := 24) hX (v := (-1)) dX25_kind_24 (by decide) ?_
    refine jj_iret (pc := 25) hX dX25_kind_25 hr ⟨Nat.le_refl _, Nat.le_refl _⟩ ?_
    unfold m_kindS
    rw [if_neg hc9]
    unfold m_kindV
    rw [if_neg hc9]
    exact ⟨rfl, rfl, rfl, rfl, rfl⟩

theorem w_code_1 {X : jj_X} (hX : jj_ok X cX25_code "BranchCellsModel" 5 1 25 0 0) {Q : State → Prop} (σ : jm) (b op a : Int32) (K1 : ((op = 1 ∨ op = 2) → (0 : Int64) ≤ a.toInt64 ∧ a.toInt64 ≤ (15 : Int64)) → jj_J X Q 0 0 62 [(0, jR (some 0)), (1, jI b), (2, jI op), (3, jI a)] [] jm_T σ.1 σ.2 jm_R) (K0 : ¬ ((op = 1 ∨ op = 2) → (0 : Int64) ≤ a.toInt64 ∧ a.toInt64 ≤ (15 : Int64)) → jj_J X Q 0 0 120 [(0, jR (some 0)), (1, jI b), (2, jI op), (3, jI a)] [] jm_T σ.1 σ.2 jm_R) : jj_J X Q 0 0 40 [(0, jR (some 0)), (1, jI b), (2, jI op), (3, jI a)] [] jm_T σ.1 σ.2 jm_R := by
  refine jj_iload_n (pc := 40) hX dX25_code_40 rfl ?_
  refine jj_iconst (pc := 41) hX (v := 1) dX25_code_41 (by decide) ?_
  refine jj_icmp_eq (pc := 42) hX 50 dX25_code_42 rfl (fun h42 => ?_) (fun h42 => ?_)
  · refine jj_iload_n (pc := 50) hX dX25_code_50 rfl ?_
    refine jj_i2l (pc := 51) hX dX25_code_51 ?_
    refine jj_lconst (pc := 52) hX (v := 0) dX25_code_52 (by decide) ?_
    refine jj_ldc2 (pc := 53) hX (v := 15) q1592 dX25_code_53 ?_
    refine jj_callS (pc := 56) hX (w_in X.1 _ _ _ _ _ _ _) dX25_code_56 (lw_S q1588 q1589 q78 q1590) ⟨by decide +kernel, by decide +kernel, by show _ = some (3 : Nat); decide +kernel⟩ ⟨Nat.le_of_ble_eq_true rfl, Nat.le_of_ble_eq_true rfl, Nat.le_of_ble_eq_true rfl, Nat.le_of_ble_eq_true rfl, Nat.le_of_ble_eq_true rfl⟩ (fun q => by cases q) rfl (jj_kif (fun hin => ?_) (fun hin => ?_)) jj_kno
    · refine jj_if_eq (pc := 59) hX 120 dX25_code_59 rfl (fun q => absurd q (by decide)) (fun _ => ?_)
      refine jj_ls [(0, jR (some 0)), (1, jI b), (2, jI op), (3, jI a)] ⟨rfl, rfl, rfl, rfl, trivial⟩ ?_
      exact K1 (fun _ => hin)
    · refine jj_if_eq (pc := 59) hX 120 dX25_code_59 rfl (fun _ => ?_) (fun q => absurd (by decide) q)
      refine jj_ls [(0, jR (some 0)), (1, jI b), (2, jI op), (3, jI a)] ⟨rfl, rfl, rfl, rfl, trivial⟩ ?_
      exact K0 (fun q => hin (q (Or.inl h42)))
  · refine jj_iload_n (pc := 45) hX dX25_code_45 rfl ?_
    refine jj_iconst (pc := 46) hX (v := 2) dX25_code_46 (by decide) ?_
    refine jj_icmp_ne (pc := 47) hX 62 dX25_code_47 rfl (fun h47 => ?_) (fun h47 => ?_)
    · refine jj_ls [(0, jR (some 0)), (1, jI b), (2, jI op), (3, jI a)] ⟨rfl, rfl, rfl, rfl, trivial⟩ ?_
      refine K1 (fun q => ?_)
      rcases q with q | q
      · exact absurd q h42
      · exact absurd q h47
    · refine jj_iload_n (pc := 50) hX dX25_code_50 rfl ?_
      refine jj_i2l (pc := 51) hX dX25_code_51 ?_
      refine jj_lconst (pc := 52) hX (v := 0) dX25_code_52 (by decide) ?_
      refine jj_ldc2 (pc := 53) hX (v := 15) q1592 dX25_code_53 ?_
      refine jj_callS (pc := 56) hX (w_in X.1 _ _ _ _ _ _ _) dX25_code_56 (lw_S q1588 q1589 q78 q1590) ⟨by decide +kernel, by decide +kernel, by show _ = some (3 : Nat); decide +kernel⟩ ⟨Nat.le_of_ble_eq_true rfl, Nat.le_of_ble_eq_true rfl, Nat.le_of_ble_eq_true rfl, Nat.le_of_ble_eq_true rfl, Nat.le_of_ble_eq_true rfl⟩ (fun q => by cases q) rfl (jj_kif (fun hin => ?_) (fun hin => ?_)) jj_kno
      · refine jj_if_eq (pc := 59) hX 120 dX25_code_59 rfl (fun q => absurd q (by decide)) (fun _ => ?_)
        refine jj_ls [(0, jR (some 0)), (1, jI b), (2, jI op), (3, jI a)] ⟨rfl, rfl, rfl, rfl, trivial⟩ ?_
        exact K1 (fun _ => hin)
      · refine jj_if_eq (pc := 59) hX 120 dX25_code_59 rfl (fun _ => ?_) (fun q => absurd (by decide) q)
        refine jj_ls [(0, jR (some 0)), (1, jI b), (2, jI op), (3, jI a)] ⟨rfl, rfl, rfl, rfl, trivial⟩ ?_
        exact K0 (fun q => hin (q (Or.inr (h47))))

theorem w_code_2 {X : jj_X} (hX : jj_ok X cX25_code "BranchCellsModel" 5 1 25 0 0) {Q : State → Prop} (σ : jm) (b op a : Int32) (K1 : ((op = 12 ∨ op = 13) → (0 : Int64) ≤ a.toInt64 ∧ a.toInt64 ≤ (40 : Int64)) → jj_J X Q 0 0 86 [(0, jR (some 0)), (1, jI b), (2, jI op), (3, jI a)] [] jm_T σ.1 σ.2 jm_R) (K0 : ¬ ((op = 12 ∨ op = 13) → (0 : Int64) ≤ a.toInt64 ∧ a.toInt64 ≤ (40 : Int64)) → jj_J X Q 0 0 120 [(0, jR (some 0)), (1, jI b), (2, jI op), (3, jI a)] [] jm_T σ.1 σ.2 jm_R) : jj_J X Q 0 0 62 [(0, jR (some 0)), (1, jI b), (2, jI op), (3, jI a)] [] jm_T σ.1 σ.2 jm_R := by
  refine jj_iload_n (pc := 62) hX dX25_code_62 rfl ?_
  refine jj_bipush (pc := 63) hX (v := 12) dX25_code_63 (by decide) ?_
  refine jj_icmp_eq (pc := 65) hX 74 dX25_code_65 rfl (fun h65 => ?_) (fun h65 => ?_)
  · refine jj_iload_n (pc := 74) hX dX25_code_74 rfl ?_
    refine jj_i2l (pc := 75) hX dX25_code_75 ?_
    refine jj_lconst (pc := 76) hX (v := 0) dX25_code_76 (by decide) ?_
    refine jj_ldc2 (pc := 77) hX (v := 40) q1593 dX25_code_77 ?_
    refine jj_callS (pc := 80) hX (w_in X.1 _ _ _ _ _ _ _) dX25_code_80 (lw_S q1588 q1589 q78 q1590) ⟨by decide +kernel, by decide +kernel, by show _ = some (3 : Nat); decide +kernel⟩ ⟨Nat.le_of_ble_eq_true rfl, Nat.le_of_ble_eq_true rfl, Nat.le_of_ble_eq_true rfl, Nat.le_of_ble_eq_true rfl, Nat.le_of_ble_eq_true rfl⟩ (fun q => by cases q) rfl (jj_kif (fun hin => ?_) (fun hin => ?_)) jj_kno
    · refine jj_if_eq (pc := 83) hX 120 dX25_code_83 rfl (fun q => absurd q (by decide)) (fun _ => ?_)
      refine jj_ls [(0, jR (some 0)), (1, jI b), (2, jI op), (3, jI a)] ⟨rfl, rfl, rfl, rfl, trivial⟩ ?_
      exact K1 (fun _ => hin)
    · refine jj_if_eq (pc := 83) hX 120 dX25_code_83 rfl (fun _ => ?_) (fun q => absurd (by decide) q)
      refine jj_ls [(0, jR (some 0)), (1, jI b), (2, jI op), (3, jI a)] ⟨rfl, rfl, rfl, rfl, trivial⟩ ?_
      exact K0 (fun q => hin (q (Or.inl h65)))
  · refine jj_iload_n (pc := 68) hX dX25_code_68 rfl ?_
    refine jj_bipush (pc := 69) hX (v := 13) dX25_code_69 (by decide) ?_
    refine jj_icmp_ne (pc := 71) hX 86 dX25_code_71 rfl (fun h71 => ?_) (fun h71 => ?_)
    · refine jj_ls [(0, jR (some 0)), (1, jI b), (2, jI op), (3, jI a)] ⟨rfl, rfl, rfl, rfl, trivial⟩ ?_
      refine K1 (fun q => ?_)
      rcases q with q | q
      · exact absurd q h65
      · exact absurd q h71
    · refine jj_iload_n (pc := 74) hX dX25_code_74 rfl ?_
      refine jj_i2l (pc := 75) hX dX25_code_75 ?_
      refine jj_lconst (pc := 76) hX (v := 0) dX25_code_76 (by decide) ?_
      refine jj_ldc2 (pc := 77) hX (v := 40) q1593 dX25_code_77 ?_
      refine jj_callS (pc := 80) hX (w_in X.1 _ _ _ _ _ _ _) dX25_code_80 (lw_S q1588 q1589 q78 q1590) ⟨by decide +kernel, by decide +kernel, by show _ = some (3 : Nat); decide +kernel⟩ ⟨Nat.le_of_ble_eq_true rfl, Nat.le_of_ble_eq_true rfl, Nat.le_of_ble_eq_true rfl, Nat.le_of_ble_eq_true rfl, Nat.le_of_ble_eq_true rfl⟩ (fun q => by cases q) rfl (jj_kif (fun hin => ?_) (fun hin => ?_)) jj_kno
      · refine jj_if_eq (pc := 83) hX 120 dX25_code_83 rfl (fun q => absurd q (by decide)) (fun _ => ?_)
        refine jj_ls [(0, jR (some 0)), (1, jI b), (2, jI op), (3, jI a)] ⟨rfl, rfl, rfl, rfl, trivial⟩ ?_
        exact K1 (fun _ => hin)
      · refine jj_if_eq (pc := 83) hX 120 dX25_code_83 rfl (fun _ => ?_) (fun q => absurd (by decide) q)
        refine jj_ls [(0, jR (some 0)), (1, jI b), (2, jI op), (3, jI a)] ⟨rfl, rfl, rfl, rfl, trivial⟩ ?_
        exact K0 (fun q => hin (q (Or.inr (h71))))

theorem w_code_3 {X : jj_X} (hX : jj_ok X cX25_code "BranchCellsModel" 5 1 25 0 0) {Q : State → Prop} (σ : jm) (b op a : Int32) (K1 : ((op = 14 ∨ op = 15 ∨ op = 17) → (0 : Int64) ≤ a.toInt64 ∧ a.toInt64 ≤ (7 : Int64)) → jj_J X Q 0 0 116 [(0, jR (some 0)), (1, jI b), (2, jI op), (3, jI a)] [] jm_T σ.1 σ.2 jm_R) (K0 : ¬ ((op = 14 ∨ op = 15 ∨ op = 17) → (0 : Int64) ≤ a.toInt64 ∧ a.toInt64 ≤ (7 : Int64)) → jj_J X Q 0 0 120 [(0, jR (some 0)), (1, jI b), (2, jI op), (3, jI a)] [] jm_T σ.1 σ.2 jm_R) : jj_J X Q 0 0 86 [(0, jR (some 0)), (1, jI b), (2, jI op), (3, jI a)] [] jm_T σ.1 σ.2 jm_R := by
  refine jj_iload_n (pc := 86) hX dX25_code_86 rfl ?_
  refine jj_bipush (pc := 87) hX (v := 14) dX25_code_87 (by decide) ?_
  refine jj_icmp_eq (pc := 89) hX 104 dX25_code_89 rfl (fun h89 => ?_) (fun h89 => ?_)
  · refine jj_iload_n (pc := 104) hX dX25_code_104 rfl ?_
    refine jj_i2l (pc := 105) hX dX25_code_105 ?_
    refine jj_lconst (pc := 106) hX (v := 0) dX25_code_106 (by decide) ?_
    refine jj_ldc2 (pc := 107) hX (v := 7) q1594 dX25_code_107 ?_
    refine jj_callS (pc := 110) hX (w_in X.1 _ _ _ _ _ _ _) dX25_code_110 (lw_S q1588 q1589 q78 q1590) ⟨by decide +kernel, by decide +kernel, by show _ = some (3 : Nat); decide +kernel⟩ ⟨Nat.le_of_ble_eq_true rfl, Nat.le_of_ble_eq_true rfl, Nat.le_of_ble_eq_true rfl, Nat.le_of_ble_eq_true rfl, Nat.le_of_ble_eq_true rfl⟩ (fun q => by cases q) rfl (jj_kif (fun hin => ?_) (fun hin => ?_)) jj_kno
    · refine jj_if_eq (pc := 113) hX 120 dX25_code_113 rfl (fun q => absurd q (by decide)) (fun _ => ?_)
      refine jj_ls [(0, jR (some 0)), (1, jI b), (2, jI op), (3, jI a)] ⟨rfl, rfl, rfl, rfl, trivial⟩ ?_
      exact K1 (fun _ => hin)
    · refine jj_if_eq (pc := 113) hX 120 dX25_code_113 rfl (fun _ => ?_) (fun q => absurd (by decide) q)
      refine jj_ls [(0, jR (some 0)), (1, jI b), (2, jI op), (3, jI a)] ⟨rfl, rfl, rfl, rfl, trivial⟩ ?_
      exact K0 (fun q => hin (q (Or.inl h89)))
  · refine jj_iload_n (pc := 92) hX dX25_code_92 rfl ?_
    refine jj_bipush (pc := 93) hX (v := 15) dX25_code_93 (by decide) ?_
    refine jj_icmp_eq (pc := 95) hX 104 dX25_code_95 rfl (fun h95 => ?_) (fun h95 => ?_)
    · refine jj_iload_n (pc := 104) hX dX25_code_104 rfl ?_
      refine jj_i2l (pc := 105) hX dX25_code_105 ?_
      refine jj_lconst (pc := 106) hX (v := 0) dX25_code_106 (by decide) ?_
      refine jj_ldc2 (pc := 107) hX (v := 7) q1594 dX25_code_107 ?_
      refine jj_callS (pc := 110) hX (w_in X.1 _ _ _ _ _ _ _) dX25_code_110 (lw_S q1588 q1589 q78 q1590) ⟨by decide +kernel, by decide +kernel, by show _ = some (3 : Nat); decide +kernel⟩ ⟨Nat.le_of_ble_eq_true rfl, Nat.le_of_ble_eq_true rfl, Nat.le_of_ble_eq_true rfl, Nat.le_of_ble_eq_true rfl, Nat.le_of_ble_eq_true rfl⟩ (fun q => by cases q) rfl (jj_kif (fun hin => ?_) (fun hin => ?_)) jj_kno
      · refine jj_if_eq (pc := 113) hX 120 dX25_code_113 rfl (fun q => absurd q (by decide)) (fun _ => ?_)
        refine jj_ls [(0, jR (some 0)), (1, jI b), (2, jI op), (3, jI a)] ⟨rfl, rfl, rfl, rfl, trivial⟩ ?_
        exact K1 (fun _ => hin)
      · refine jj_if_eq (pc := 113) hX 120 dX25_code_113 rfl (fun _ => ?_) (fun q => absurd (by decide) q)
        refine jj_ls [(0, jR (some 0)), (1, jI b), (2, jI op), (3, jI a)] ⟨rfl, rfl, rfl, rfl, trivial⟩ ?_
        exact K0 (fun q => hin (q (Or.inr (Or.inl h95))))
    · refine jj_iload_n (pc := 98) hX dX25_code_98 rfl ?_
      refine jj_bipush (pc := 99) hX (v := 17) dX25_code_99 (by decide) ?_
      refine jj_icmp_ne (pc := 101) hX 116 dX25_code_101 rfl (fun h101 => ?_) (fun h101 => ?_)
      · refine jj_ls [(0, jR (some 0)), (1, jI b), (2, jI op), (3, jI a)] ⟨rfl, rfl, rfl, rfl, trivial⟩ ?_
        refine K1 (fun q => ?_)
        rcases q with q | q | q
        · exact absurd q h89
        · exact absurd q h95
        · exact absurd q h101
      · refine jj_iload_n (pc := 104) hX dX25_code_104 rfl ?_
        refine jj_i2l (pc := 105) hX dX25_code_105 ?_
        refine jj_lconst (pc := 106) hX (v := 0) dX25_code_106 (by decide) ?_
        refine jj_ldc2 (pc := 107) hX (v := 7) q1594 dX25_code_107 ?_
        refine jj_callS (pc := 110) hX (w_in X.1 _ _ _ _ _ _ _) dX25_code_110 (lw_S q1588 q1589 q78 q1590) ⟨by decide +kernel, by decide +kernel, by show _ = some (3 : Nat); decide +kernel⟩ ⟨Nat.le_of_ble_eq_true rfl, Nat.le_of_ble_eq_true rfl, Nat.le_of_ble_eq_true rfl, Nat.le_of_ble_eq_true rfl, Nat.le_of_ble_eq_true rfl⟩ (fun q => by cases q) rfl (jj_kif (fun hin => ?_) (fun hin => ?_)) jj_kno
        · refine jj_if_eq (pc := 113) hX 120 dX25_code_113 rfl (fun q => absurd q (by decide)) (fun _ => ?_)
          refine jj_ls [(0, jR (some 0)), (1, jI b), (2, jI op), (3, jI a)] ⟨rfl, rfl, rfl, rfl, trivial⟩ ?_
          exact K1 (fun _ => hin)
        · refine jj_if_eq (pc := 113) hX 120 dX25_code_113 rfl (fun _ => ?_) (fun q => absurd (by decide) q)
          refine jj_ls [(0, jR (some 0)), (1, jI b), (2, jI op), (3, jI a)] ⟨rfl, rfl, rfl, rfl, trivial⟩ ?_
          exact K0 (fun q => hin (q (Or.inr (Or.inr (h101)))))

theorem w_code (G : jj_G) (σ : jm) (hv : m_inv σ) (b op a : Int32) : jm_M G yX25_code cX25_code 5 (some .int) 1 25 [jI b, jI op, jI a] σ (m_codeS σ b op a) (some (jI (m_codeV σ b op a))) := by
  refine jj_intro "BranchCellsModel" (by decide) rfl (Nat.le_of_ble_eq_true rfl) ?_
  intro X hG hX hr hN hC hF
  subst hG
  refine jj_iload_n (pc := 0) hX dX25_code_0 rfl ?_
  refine jj_i2l (pc := 1) hX dX25_code_1 ?_
  refine jj_lconst (pc := 2) hX (v := 0) dX25_code_2 (by decide) ?_
  refine jj_aload_n (pc := 3) hX dX25_code_3 rfl ?_
  refine jj_getI (pc := 4) hX fl_X25_114_25 dX25_code_4 rfl rfl ?_
  refine jj_iconst (pc := 7) hX (v := 1) dX25_code_7 (by decide) ?_
  refine jj_isub (pc := 8) hX dX25_code_8 ?_
  refine jj_i2l (pc := 9) hX dX25_code_9 ?_
  refine jj_callS (pc := 10) hX (w_in X.1 _ _ _ _ _ _ _) dX25_code_10 (lw_S q1588 q1589 q78 q1590) ⟨by decide +kernel, by decide +kernel, by show _ = some (3 : Nat); decide +kernel⟩ ⟨Nat.le_of_ble_eq_true rfl, Nat.le_of_ble_eq_true rfl, Nat.le_of_ble_eq_true rfl, Nat.le_of_ble_eq_true rfl, Nat.le_of_ble_eq_true rfl⟩ (fun q => by cases q) rfl (jj_kif (fun hb9 => ?_) (fun hb9 => ?_)) jj_kno
  · obtain ⟨e9, l9⟩ := in_b hv.bl.1 (by have := hv.bl.2; omega) hb9
    have hM9 := hv.bl.2
    refine jj_if_eq (pc := 13) hX 32 dX25_code_13 rfl (fun q => absurd q (by decide)) (fun _ => ?_)
    refine jj_iload_n (pc := 16) hX dX25_code_16 rfl ?_
    refine jj_i2l (pc := 17) hX dX25_code_17 ?_
    refine jj_lconst (pc := 18) hX (v := 0) dX25_code_18 (by decide) ?_
    refine jj_ldc2 (pc := 19) hX (v := 21) q1591 dX25_code_19 ?_
    refine jj_callS (pc := 22) hX (w_in X.1 _ _ _ _ _ _ _) dX25_code_22 (lw_S q1588 q1589 q78 q1590) ⟨by decide +kernel, by decide +kernel, by show _ = some (3 : Nat); decide +kernel⟩ ⟨Nat.le_of_ble_eq_true rfl, Nat.le_of_ble_eq_true rfl, Nat.le_of_ble_eq_true rfl, Nat.le_of_ble_eq_true rfl, Nat.le_of_ble_eq_true rfl⟩ (fun q => by cases q) rfl (jj_kif (fun ho9 => ?_) (fun ho9 => ?_)) jj_kno
    · refine jj_if_eq (pc := 25) hX 32 dX25_code_25 rfl (fun q => absurd q (by decide)) (fun _ => ?_)
      refine jj_iconst (pc := 28) hX (v := 1) dX25_code_28 (by decide) ?_
      refine jj_goto (pc := 29) hX 33 dX25_code_29 rfl ?_
      refine jj_istore (pc := 33) hX dX25_code_33 (by decide) ?_
      refine jj_iload (pc := 35) hX dX25_code_35 rfl ?_
      refine jj_if_eq (pc := 37) hX 120 dX25_code_37 rfl (fun q => absurd q (by decide)) (fun _ => ?_)
      refine jj_ls [(0, jR (some 0)), (1, jI b), (2, jI op), (3, jI a)] ⟨rfl, rfl, rfl, rfl, trivial⟩ ?_
      refine w_code_1 hX σ b op a (fun g1 => w_code_2 hX σ b op a (fun g2 => w_code_3 hX σ b op a (fun g3 => ?_) (fun g3 => ?_)) (fun g2 => ?_)) (fun g1 => ?_)
      · refine jj_iconst (pc := 116) hX (v := 1) dX25_code_116 (by decide) ?_
        refine jj_goto (pc := 117) hX 121 dX25_code_117 rfl ?_
        refine jj_istore (pc := 121) hX dX25_code_121 (by decide) ?_
        refine jj_iload (pc := 123) hX dX25_code_123 rfl ?_
        refine jj_if_ne (pc := 125) hX 130 dX25_code_125 rfl (fun _ => ?_) (fun q => absurd q (by decide))
        refine jj_aload_n (pc := 130) hX dX25_code_130 rfl ?_
        refine jj_getI (pc := 131) hX fl_X25_130_25 dX25_code_131 rfl rfl ?_
        refine jj_if_eq (pc := 134) hX 140 dX25_code_134 rfl (fun h134 => ?_) (fun h134 => ?_)
        · refine jj_aload_n (pc := 140) hX dX25_code_140 rfl ?_
          refine jj_getR (pc := 141) hX (x := some 2) fl_X25_7_25 dX25_code_141 rfl rfl rfl ?_
          refine jj_iload_n (pc := 144) hX dX25_code_144 rfl ?_
          refine jj_iald (pc := 145) hX (nv b) dX25_code_145 rfl rfl e9 ⟨by omega, by omega⟩ ?_
          refine jj_bipush (pc := 146) hX (v := 40) dX25_code_146 (by decide) ?_
          refine jj_icmp_ne (pc := 148) hX 154 dX25_code_148 rfl (fun h148 => ?_) (fun h148 => ?_)
          · have hA9 : nv (σ.1 2 (nv b)) < 40 := by
              rcases Nat.lt_or_ge (nv (σ.1 2 (nv b))) 40 with q | q
              · exact q
              · exact absurd (by have h8 := hv.cm (nv b) (by omega); rw [h8.1, show nv (σ.1 2 (nv b)) = 40 by have := h8.2; omega]; rfl) h148
            refine jj_aload_n (pc := 154) hX dX25_code_154 rfl ?_
            refine jj_getR (pc := 155) hX (x := some 3) fl_X25_13_25 dX25_code_155 rfl rfl rfl ?_
            refine jj_bipush (pc := 158) hX (v := 40) dX25_code_158 (by decide) ?_
            refine jj_iload_n (pc := 160) hX dX25_code_160 rfl ?_
            refine jj_imul (pc := 161) hX dX25_code_161 ?_
            refine jj_aload_n (pc := 162) hX dX25_code_162 rfl ?_
            refine jj_getR (pc := 163) hX (x := some 2) fl_X25_7_25 dX25_code_163 rfl rfl rfl ?_
            refine jj_iload_n (pc := 166) hX dX25_code_166 rfl ?_
            refine jj_iald (pc := 167) hX (nv b) dX25_code_167 rfl rfl e9 ⟨by omega, by omega⟩ ?_
            refine jj_iadd (pc := 168) hX dX25_code_168 ?_
            refine jj_iload_n (pc := 169) hX dX25_code_169 rfl ?_
            refine jj_iast (pc := 170) hX ((40 * nv b) + nv (σ.1 2 (nv b))) dX25_code_170 rfl (ix_add (ix_mul rfl e9) (hv.cm _ (by omega)).1) ⟨by omega, by omega⟩ ?_
            refine jj_aload_n (pc := 171) hX dX25_code_171 rfl ?_
            refine jj_getR (pc := 172) hX (x := some 4) fl_X25_16_25 dX25_code_172 rfl rfl rfl ?_
            refine jj_bipush (pc := 175) hX (v := 40) dX25_code_175 (by decide) ?_
            refine jj_iload_n (pc := 177) hX dX25_code_177 rfl ?_
            refine jj_imul (pc := 178) hX dX25_code_178 ?_
            refine jj_aload_n (pc := 179) hX dX25_code_179 rfl ?_
            refine jj_getR (pc := 180) hX (x := some 2) fl_X25_7_25 dX25_code_180 rfl rfl rfl ?_
            refine jj_iload_n (pc := 183) hX dX25_code_183 rfl ?_
            refine jj_iald (pc := 184) hX (nv b) dX25_code_184 rfl rfl e9 ⟨by omega, by omega⟩ ?_
            refine jj_iadd (pc := 185) hX dX25_code_185 ?_
            refine jj_iload_n (pc := 186) hX dX25_code_186 rfl ?_
            refine jj_iast (pc := 187) hX ((40 * nv b) + nv (σ.1 2 (nv b))) dX25_code_187 rfl (ix_add (ix_mul rfl e9) (hv.cm _ (by omega)).1) ⟨by omega, by omega⟩ ?_
            refine jj_aload_n (pc := 188) hX dX25_code_188 rfl ?_
            refine jj_getR (pc := 189) hX (x := some 2) fl_X25_7_25 dX25_code_189 rfl rfl rfl ?_
            refine jj_iload_n (pc := 192) hX dX25_code_192 rfl ?_
            refine jj_dup2 (pc := 193) hX dX25_code_193 rfl rfl ?_
            refine jj_iald (pc := 194) hX (nv b) dX25_code_194 rfl rfl e9 ⟨by omega, by omega⟩ ?_
            refine jj_iconst (pc := 195) hX (v := 1) dX25_code_195 (by decide) ?_
            refine jj_iadd (pc := 196) hX dX25_code_196 ?_
            refine jj_iast (pc := 197) hX (nv b) dX25_code_197 rfl e9 ⟨by omega, by omega⟩ ?_
            refine jj_aload_n (pc := 198) hX dX25_code_198 rfl ?_
            refine jj_getR (pc := 199) hX (x := some 2) fl_X25_7_25 dX25_code_199 rfl rfl rfl ?_
            refine jj_iload_n (pc := 202) hX dX25_code_202 rfl ?_
            refine jj_iald (pc := 203) hX (nv b) dX25_code_203 rfl rfl e9 ⟨by omega, by omega⟩ ?_
            refine jj_top (σ.1 2 (nv b) + 1) (by rw [jj_us, jj_un (Or.inl (by decide)), jj_un (Or.inl (by decide))]) ?_
            refine jj_iret (pc := 204) hX dX25_code_204 hr ⟨Nat.le_refl _, Nat.le_refl _⟩ ?_
            unfold m_codeS
            rw [if_pos hb9, if_pos ho9, if_pos ⟨g1, g2, g3⟩, if_pos h134, if_neg h148]
            unfold m_codeV
            rw [if_pos hb9, if_pos ho9, if_pos ⟨g1, g2, g3⟩, if_pos h134, if_neg h148]
            exact ⟨rfl, rfl, rfl, rfl, rfl⟩
          · refine jj_bipush (pc := 151) hX (v := (-3)) dX25_code_151 (by decide) ?_
            refine jj_iret (pc := 153) hX dX25_code_153 hr ⟨Nat.le_refl _, Nat.le_refl _⟩ ?_
            unfold m_codeS
            rw [if_pos hb9, if_pos ho9, if_pos ⟨g1, g2, g3⟩, if_pos h134, if_pos h148]
            unfold m_codeV
            rw [if_pos hb9, if_pos ho9, if_pos ⟨g1, g2, g3⟩, if_pos h134, if_pos h148]
            exact ⟨rfl, rfl, rfl, rfl, rfl⟩
        · refine jj_bipush (pc := 137) hX (v := (-2)) dX25_code_137 (by decide) ?_
          refine jj_iret (pc := 139) hX dX25_code_139 hr ⟨Nat.le_refl _, Nat.le_refl _⟩ ?_
          unfold m_codeS
          rw [if_pos hb9, if_pos ho9, if_pos ⟨g1, g2, g3⟩, if_neg h134]
          unfold m_codeV
          rw [if_pos hb9, if_pos ho9, if_pos ⟨g1, g2, g3⟩, if_neg h134]
          exact ⟨rfl, rfl, rfl, rfl, rfl⟩
      · refine jj_iconst (pc := 120) hX (v := 0) dX25_code_120 (by decide) ?_
        refine jj_istore (pc := 121) hX dX25_code_121 (by decide) ?_
        refine jj_iload (pc := 123) hX dX25_code_123 rfl ?_
        refine jj_if_ne (pc := 125) hX 130 dX25_code_125 rfl (fun q => absurd (by decide) q) (fun _ => ?_)
        refine jj_iconst (pc := 128) hX (v := (-1)) dX25_code_128 (by decide) ?_
        refine jj_iret (pc := 129) hX dX25_code_129 hr ⟨Nat.le_refl _, Nat.le_refl _⟩ ?_
        unfold m_codeS
        rw [if_pos hb9, if_pos ho9, if_neg (fun q => g3 q.2.2)]
        unfold m_codeV
        rw [if_pos hb9, if_pos ho9, if_neg (fun q => g3 q.2.2)]
        exact ⟨rfl, rfl, rfl, rfl, rfl⟩
      · refine jj_iconst (pc := 120) hX (v := 0) dX25_code_120 (by decide) ?_
        refine jj_istore (pc := 121) hX dX25_code_121 (by decide) ?_
        refine jj_iload (pc := 123) hX dX25_code_123 rfl ?_
        refine jj_if_ne (pc := 125) hX 130 dX25_code_125 rfl (fun q => absurd (by decide) q) (fun _ => ?_)
        refine jj_iconst (pc := 128) hX (v := (-1)) dX25_code_128 (by decide) ?_
        refine jj_iret (pc := 129) hX dX25_code_129 hr ⟨Nat.le_refl _, Nat.le_refl _⟩ ?_
        unfold m_codeS
        rw [if_pos hb9, if_pos ho9, if_neg (fun q => g2 q.2.1)]
        unfold m_codeV
        rw [if_pos hb9, if_pos ho9, if_neg (fun q => g2 q.2.1)]
        exact ⟨rfl, rfl, rfl, rfl, rfl⟩
      · refine jj_iconst (pc := 120) hX (v := 0) dX25_code_120 (by decide) ?_
        refine jj_istore (pc := 121) hX dX25_code_121 (by decide) ?_
        refine jj_iload (pc := 123) hX dX25_code_123 rfl ?_
        refine jj_if_ne (pc := 125) hX 130 dX25_code_125 rfl (fun q => absurd (by decide) q) (fun _ => ?_)
        refine jj_iconst (pc := 128) hX (v := (-1)) dX25_code_128 (by decide) ?_
        refine jj_iret (pc := 129) hX dX25_code_129 hr ⟨Nat.le_refl _, Nat.le_refl _⟩ ?_
        unfold m_codeS
        rw [if_pos hb9, if_pos ho9, if_neg (fun q => g1 q.1)]
        unfold m_codeV
        rw [if_pos hb9, if_pos ho9, if_neg (fun q => g1 q.1)]
        exact ⟨rfl, rfl, rfl, rfl, rfl⟩
    · refine jj_if_eq (pc := 25) hX 32 dX25_code_25 rfl (fun _ => ?_) (fun q => absurd (by decide) q)
      refine jj_iconst (pc := 32) hX (v := 0) dX25_code_32 (by decide) ?_
      refine jj_istore (pc := 33) hX dX25_code_33 (by decide) ?_
      refine jj_iload (pc := 35) hX dX25_code_35 rfl ?_
      refine jj_if_eq (pc := 37) hX 120 dX25_code_37 rfl (fun _ => ?_) (fun q => absurd (by decide) q)
      refine jj_iconst (pc := 120) hX (v := 0) dX25_code_120 (by decide) ?_
      refine jj_istore (pc := 121) hX dX25_code_121 (by decide) ?_
      refine jj_iload (pc := 123) hX dX25_code_123 rfl ?_
      refine jj_if_ne (pc := 125) hX 130 dX25_code_125 rfl (fun q => absurd (by decide) q) (fun _ => ?_)
      refine jj_iconst (pc := 128) hX (v := (-1)) dX25_code_128 (by decide) ?_
      refine jj_iret (pc := 129) hX dX25_code_129 hr ⟨Nat.le_refl _, Nat.le_refl _⟩ ?_
      unfold m_codeS
      rw [if_pos hb9, if_neg ho9]
      unfold m_codeV
      rw [if_pos hb9, if_neg ho9]
      exact ⟨rfl, rfl, rfl, rfl, rfl⟩
  · refine jj_if_eq (pc := 13) hX 32 dX25_code_13 rfl (fun _ => ?_) (fun q => absurd (by decide) q)
    refine jj_iconst (pc := 32) hX (v := 0) dX25_code_32 (by decide) ?_
    refine jj_istore (pc := 33) hX dX25_code_33 (by decide) ?_
    refine jj_iload (pc := 35) hX dX25_code_35 rfl ?_
    refine jj_if_eq (pc := 37) hX 120 dX25_code_37 rfl (fun _ => ?_) (fun q => absurd (by decide) q)
    refine jj_iconst (pc := 120) hX (v := 0) dX25_code_120 (by decide) ?_
    refine jj_istore (pc := 121) hX dX25_code_121 (by decide) ?_
    refine jj_iload (pc := 123) hX dX25_code_123 rfl ?_
    refine jj_if_ne (pc := 125) hX 130 dX25_code_125 rfl (fun q => absurd (by decide) q) (fun _ => ?_)
    refine jj_iconst (pc := 128) hX (v := (-1)) dX25_code_128 (by decide) ?_
    refine jj_iret (pc := 129) hX dX25_code_129 hr ⟨Nat.le_refl _, Nat.le_refl _⟩ ?_
    unfold m_codeS
    rw [if_neg hb9]
    unfold m_codeV
    rw [if_neg hb9]
    exact ⟨rfl, rfl, rfl, rfl, rfl⟩
