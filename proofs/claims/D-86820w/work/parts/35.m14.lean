set_option maxRecDepth 100000

def m_c1 (a s c : Nat) (σ : jm) : jm := if σ.1 39 (16 * s + c) = 0 then σ else if σ.1 39 (16 * a + c) = 0 then m_v (m_u σ 39 (16 * a + c) 1) 40 (16 * a + c) (σ.2 40 (16 * s + c)) else σ
def m_cp (a s : Nat) : Nat → Nat → jm → jm
  | 0, _, σ => σ
  | n + 1, c, σ => m_cp a s n (c + 1) (m_c1 a s c σ)
def m_u1 (s k : Nat) (σ : jm) : jm := if σ.1 38 k = nI s then m_u σ 38 k (σ.1 38 s) else σ
def m_ub (s : Nat) : Nat → Nat → jm → jm
  | 0, _, σ => σ
  | n + 1, k, σ => m_ub s n (k + 1) (m_u1 s k σ)
def m_gm (a s : Nat) (σ : jm) : jm := m_hold (m_ub s (nv (σ.1 0 36)) 0 (m_cp a s 16 0 σ))
def m_abv (s : Nat) (σ : jm) : Int32 := if σ.1 41 s = 0 then -4 else m_goes σ (nI s)
def m_gd : Nat → Nat → jm → Prop
  | 0, _, _ => False
  | n + 1, s, σ => m_inv σ ∧ s ≤ nv (σ.1 0 36) ∧ (s < nv (σ.1 0 36) → (m_abv s σ = -4 → m_gd n (s + 1) σ) ∧ (¬ m_abv s σ = -4 → (m_abv s σ = nI (nv (m_abv s σ)) ∧ nv (m_abv s σ) < nv (σ.1 0 36) ∧ m_inv (m_ub s (nv (σ.1 0 36)) 0 (m_cp (nv (m_abv s σ)) s 16 0 σ))) ∧ m_gd n 0 (m_gm (nv (m_abv s σ)) s σ)))
def m_ga : Nat → Nat → jm → jm
  | 0, _, σ => σ
  | n + 1, s, σ => if s < nv (σ.1 0 36) then (if m_abv s σ = -4 then m_ga n (s + 1) σ else m_ga n 0 (m_gm (nv (m_abv s σ)) s σ)) else σ
def m_gdk : Prop := ∀ σ, m_inv σ → m_gd 6500 0 (m_hold σ)
def m_gaE (σ : jm) : jm := m_ga 6500 0 (m_hold σ)
def m_gathR (σ : jm) : Int32 × jm := if σ.1 0 10 = 0 then (-2, σ) else (nI (m_vers (m_hold σ)) - nI (m_vers (m_hold (m_gaE σ))), m_hold (m_gaE σ))
theorem m_c1_0 {a s c j : Nat} {σ : jm} : (m_c1 a s c σ).1 0 j = σ.1 0 j := by
  unfold m_c1
  split
  · rfl
  · split
    · rw [m_v_1, m_u_1, jj_un (Or.inl (by decide))]
    · rfl
theorem m_cp_0 {a s j : Nat} : ∀ (n c : Nat) (σ : jm), (m_cp a s n c σ).1 0 j = σ.1 0 j
  | 0, _, _ => rfl
  | n + 1, c, σ => (m_cp_0 n (c + 1) _).trans m_c1_0
theorem m_u1_0 {s k j : Nat} {σ : jm} : (m_u1 s k σ).1 0 j = σ.1 0 j := by
  unfold m_u1
  split
  · rw [m_u_1, jj_un (Or.inl (by decide))]
  · rfl
theorem m_ga_inv : ∀ (n s : Nat) (σ : jm), m_gd n s σ → m_inv (m_ga n s σ) := by
  intro n
  induction n with
  | zero => intro s σ h; exact h.elim
  | succ n ih =>
    intro s σ h
    unfold m_gd at h
    unfold m_ga
    obtain ⟨h1, h2, h3⟩ := h
    split
    · next h4 =>
      split
      · next h5 => exact ih _ _ ((h3 h4).1 h5)
      · next h5 => exact ih _ _ ((h3 h4).2 h5).2
    · exact h1

theorem w_ga_c {X : jj_X} (hX : jj_ok X cX25_gather "BranchCellsModel" 5 2 44 0 0) {Q : State → Prop} (a s : Nat) (h ab : Int32) (ha : ab = nI a) (ha2 : a < 169) (hs : s < 169) (σe : jm) : ∀ (n c : Nat) (σ : jm), c + n = 16 → m_cp a s n c σ = σe → jj_J X Q 0 0 140 [(0, jR (some 0)), (1, jI h), (2, jI (nI s)), (3, jI ab)] [] jm_T σe.1 σe.2 jm_R → jj_J X Q 0 0 60 [(0, jR (some 0)), (1, jI h), (2, jI (nI s)), (3, jI ab), (4, jI (nI c))] [] jm_T σ.1 σ.2 jm_R := by
  intro n
  induction n with
  | zero =>
    intro c σ hn he K
    obtain rfl : c = 16 := by omega
    have h9 : (16 : Int32) ≤ nI 16 := by decide
    unfold m_cp at he
    subst he
    refine jj_iload (pc := 60) hX dX25_gather_60 rfl ?_
    refine jj_bipush (pc := 62) hX (v := 16) dX25_gather_62 (by decide) ?_
    refine jj_icmp_ge (pc := 64) hX 140 dX25_gather_64 rfl (fun _ => ?_) (fun q => absurd h9 q)
    refine jj_ls [(0, jR (some 0)), (1, jI h), (2, jI (nI s)), (3, jI ab)] ⟨rfl, rfl, rfl, rfl, trivial⟩ ?_
    exact K
  | succ n ih =>
    intro c σ hn he K
    have h9 : ¬ (16 : Int32) ≤ nI c := by rw [show (16 : Int32) = nI 16 from rfl]; exact nI_ge (by omega) (by decide)
    unfold m_cp at he
    refine jj_iload (pc := 60) hX dX25_gather_60 rfl ?_
    refine jj_bipush (pc := 62) hX (v := 16) dX25_gather_62 (by decide) ?_
    refine jj_icmp_ge (pc := 64) hX 140 dX25_gather_64 rfl (fun q => absurd q h9) (fun _ => ?_)
    refine jj_aload_n (pc := 67) hX dX25_gather_67 rfl ?_
    refine jj_getR (pc := 68) hX (x := some 39) fl_X25_105_25 dX25_gather_68 rfl rfl rfl ?_
    refine jj_bipush (pc := 71) hX (v := 16) dX25_gather_71 (by decide) ?_
    refine jj_iload_n (pc := 73) hX dX25_gather_73 rfl ?_
    refine jj_imul (pc := 74) hX dX25_gather_74 ?_
    refine jj_iload (pc := 75) hX dX25_gather_75 rfl ?_
    refine jj_iadd (pc := 77) hX dX25_gather_77 ?_
    refine jj_zald (pc := 78) hX ((16 * s) + c) dX25_gather_78 rfl rfl (ix_add (ix_mul rfl rfl) rfl) ⟨by omega, by omega⟩ ?_
    refine jj_if_eq (pc := 79) hX 134 dX25_gather_79 rfl (fun h79 => ?_) (fun h79 => ?_)
    · refine jj_iinc (pc := 134) hX (v := nI (c + 1)) dX25_gather_134 rfl (ix_inc rfl) (by decide) ?_
      refine jj_goto (pc := 137) hX 60 dX25_gather_137 rfl ?_
      have e8 : m_c1 a s c σ = σ := by unfold m_c1; rw [if_pos h79]
      rw [e8] at he
      refine jj_ls [(0, jR (some 0)), (1, jI h), (2, jI (nI s)), (3, jI ab), (4, jI (nI (c + 1)))] ⟨rfl, rfl, rfl, rfl, rfl, trivial⟩ ?_
      exact ih (c + 1) _ (by omega) he K
    · refine jj_aload_n (pc := 82) hX dX25_gather_82 rfl ?_
      refine jj_getR (pc := 83) hX (x := some 39) fl_X25_105_25 dX25_gather_83 rfl rfl rfl ?_
      refine jj_bipush (pc := 86) hX (v := 16) dX25_gather_86 (by decide) ?_
      refine jj_iload_n (pc := 88) hX dX25_gather_88 rfl ?_
      refine jj_imul (pc := 89) hX dX25_gather_89 ?_
      refine jj_iload (pc := 90) hX dX25_gather_90 rfl ?_
      refine jj_iadd (pc := 92) hX dX25_gather_92 ?_
      refine jj_zald (pc := 93) hX ((16 * a) + c) dX25_gather_93 rfl rfl (ix_add (ix_mul rfl ha) rfl) ⟨by omega, by omega⟩ ?_
      refine jj_if_ne (pc := 94) hX 134 dX25_gather_94 rfl (fun h94 => ?_) (fun h94 => ?_)
      · refine jj_iinc (pc := 134) hX (v := nI (c + 1)) dX25_gather_134 rfl (ix_inc rfl) (by decide) ?_
        refine jj_goto (pc := 137) hX 60 dX25_gather_137 rfl ?_
        have e8 : m_c1 a s c σ = σ := by unfold m_c1; rw [if_neg h79, if_neg h94]
        rw [e8] at he
        refine jj_ls [(0, jR (some 0)), (1, jI h), (2, jI (nI s)), (3, jI ab), (4, jI (nI (c + 1)))] ⟨rfl, rfl, rfl, rfl, rfl, trivial⟩ ?_
        exact ih (c + 1) _ (by omega) he K
      · refine jj_aload_n (pc := 97) hX dX25_gather_97 rfl ?_
        refine jj_getR (pc := 98) hX (x := some 39) fl_X25_105_25 dX25_gather_98 rfl rfl rfl ?_
        refine jj_bipush (pc := 101) hX (v := 16) dX25_gather_101 (by decide) ?_
        refine jj_iload_n (pc := 103) hX dX25_gather_103 rfl ?_
        refine jj_imul (pc := 104) hX dX25_gather_104 ?_
        refine jj_iload (pc := 105) hX dX25_gather_105 rfl ?_
        refine jj_iadd (pc := 107) hX dX25_gather_107 ?_
        refine jj_iconst (pc := 108) hX (v := 1) dX25_gather_108 (by decide) ?_
        refine jj_zast (pc := 109) hX ((16 * a) + c) dX25_gather_109 rfl (ix_add (ix_mul rfl ha) rfl) ⟨by omega, by omega⟩ (by decide) ?_
        refine jj_aload_n (pc := 110) hX dX25_gather_110 rfl ?_
        refine jj_getR (pc := 111) hX (x := some 40) fl_X25_108_25 dX25_gather_111 rfl rfl rfl ?_
        refine jj_bipush (pc := 114) hX (v := 16) dX25_gather_114 (by decide) ?_
        refine jj_iload_n (pc := 116) hX dX25_gather_116 rfl ?_
        refine jj_imul (pc := 117) hX dX25_gather_117 ?_
        refine jj_iload (pc := 118) hX dX25_gather_118 rfl ?_
        refine jj_iadd (pc := 120) hX dX25_gather_120 ?_
        refine jj_aload_n (pc := 121) hX dX25_gather_121 rfl ?_
        refine jj_getR (pc := 122) hX (x := some 40) fl_X25_108_25 dX25_gather_122 rfl rfl rfl ?_
        refine jj_bipush (pc := 125) hX (v := 16) dX25_gather_125 (by decide) ?_
        refine jj_iload_n (pc := 127) hX dX25_gather_127 rfl ?_
        refine jj_imul (pc := 128) hX dX25_gather_128 ?_
        refine jj_iload (pc := 129) hX dX25_gather_129 rfl ?_
        refine jj_iadd (pc := 131) hX dX25_gather_131 ?_
        refine jj_lald (pc := 132) hX ((16 * s) + c) dX25_gather_132 rfl rfl (ix_add (ix_mul rfl rfl) rfl) ⟨by omega, by omega⟩ ?_
        refine jj_last (pc := 133) hX ((16 * a) + c) dX25_gather_133 rfl (ix_add (ix_mul rfl ha) rfl) ⟨by omega, by omega⟩ ?_
        refine jj_iinc (pc := 134) hX (v := nI (c + 1)) dX25_gather_134 rfl (ix_inc rfl) (by decide) ?_
        refine jj_goto (pc := 137) hX 60 dX25_gather_137 rfl ?_
        have e8 : m_c1 a s c σ = m_v (m_u σ 39 (16 * a + c) 1) 40 (16 * a + c) (σ.2 40 (16 * s + c)) := by unfold m_c1; rw [if_neg h79, if_pos h94]
        rw [e8] at he
        refine jj_ls [(0, jR (some 0)), (1, jI h), (2, jI (nI s)), (3, jI ab), (4, jI (nI (c + 1)))] ⟨rfl, rfl, rfl, rfl, rfl, trivial⟩ ?_
        exact ih (c + 1) _ (by omega) he K

theorem w_ga_u {X : jj_X} (hX : jj_ok X cX25_gather "BranchCellsModel" 5 2 44 0 0) {Q : State → Prop} (s S : Nat) (h ab : Int32) (hs : s < 169) (hS : S ≤ 169) (σe : jm) : ∀ (n k : Nat) (σ : jm), k + n = S → σ.1 0 36 = nI S → m_ub s n k σ = σe → jj_J X Q 0 0 182 [(0, jR (some 0)), (1, jI h), (2, jI (nI s)), (3, jI ab)] [] jm_T σe.1 σe.2 jm_R → jj_J X Q 0 0 143 [(0, jR (some 0)), (1, jI h), (2, jI (nI s)), (3, jI ab), (4, jI (nI k))] [] jm_T σ.1 σ.2 jm_R := by
  intro n
  induction n with
  | zero =>
    intro k σ hn hseg he K
    have h9 : σ.1 0 36 ≤ nI k := by rw [hseg]; exact nI_le (by omega) (by omega)
    unfold m_ub at he
    subst he
    refine jj_iload (pc := 143) hX dX25_gather_143 rfl ?_
    refine jj_aload_n (pc := 145) hX dX25_gather_145 rfl ?_
    refine jj_getI (pc := 146) hX fl_X25_157_25 dX25_gather_146 rfl rfl ?_
    refine jj_icmp_ge (pc := 149) hX 182 dX25_gather_149 rfl (fun _ => ?_) (fun q => absurd h9 q)
    refine jj_ls [(0, jR (some 0)), (1, jI h), (2, jI (nI s)), (3, jI ab)] ⟨rfl, rfl, rfl, rfl, trivial⟩ ?_
    exact K
  | succ n ih =>
    intro k σ hn hseg he K
    have h9 : ¬ σ.1 0 36 ≤ nI k := by rw [hseg]; exact nI_ge (by omega) (by omega)
    unfold m_ub at he
    refine jj_iload (pc := 143) hX dX25_gather_143 rfl ?_
    refine jj_aload_n (pc := 145) hX dX25_gather_145 rfl ?_
    refine jj_getI (pc := 146) hX fl_X25_157_25 dX25_gather_146 rfl rfl ?_
    refine jj_icmp_ge (pc := 149) hX 182 dX25_gather_149 rfl (fun q => absurd q h9) (fun _ => ?_)
    refine jj_aload_n (pc := 152) hX dX25_gather_152 rfl ?_
    refine jj_getR (pc := 153) hX (x := some 38) fl_X25_102_25 dX25_gather_153 rfl rfl rfl ?_
    refine jj_iload (pc := 156) hX dX25_gather_156 rfl ?_
    refine jj_iald (pc := 158) hX k dX25_gather_158 rfl rfl rfl ⟨by omega, by omega⟩ ?_
    refine jj_iload_n (pc := 159) hX dX25_gather_159 rfl ?_
    refine jj_icmp_ne (pc := 160) hX 176 dX25_gather_160 rfl (fun h160 => ?_) (fun h160 => ?_)
    · refine jj_iinc (pc := 176) hX (v := nI (k + 1)) dX25_gather_176 rfl (ix_inc rfl) (by decide) ?_
      refine jj_goto (pc := 179) hX 143 dX25_gather_179 rfl ?_
      have e7 := m_u1_0 (s := s) (k := k) (j := 36) (σ := σ)
      have e8 : m_u1 s k σ = σ := by unfold m_u1; rw [if_neg h160]
      rw [e8] at he e7
      refine jj_ls [(0, jR (some 0)), (1, jI h), (2, jI (nI s)), (3, jI ab), (4, jI (nI (k + 1)))] ⟨rfl, rfl, rfl, rfl, rfl, trivial⟩ ?_
      exact ih (k + 1) _ (by omega) (e7.trans hseg) he K
    · refine jj_aload_n (pc := 163) hX dX25_gather_163 rfl ?_
      refine jj_getR (pc := 164) hX (x := some 38) fl_X25_102_25 dX25_gather_164 rfl rfl rfl ?_
      refine jj_iload (pc := 167) hX dX25_gather_167 rfl ?_
      refine jj_aload_n (pc := 169) hX dX25_gather_169 rfl ?_
      refine jj_getR (pc := 170) hX (x := some 38) fl_X25_102_25 dX25_gather_170 rfl rfl rfl ?_
      refine jj_iload_n (pc := 173) hX dX25_gather_173 rfl ?_
      refine jj_iald (pc := 174) hX s dX25_gather_174 rfl rfl rfl ⟨by omega, by omega⟩ ?_
      refine jj_iast (pc := 175) hX k dX25_gather_175 rfl rfl ⟨by omega, by omega⟩ ?_
      refine jj_iinc (pc := 176) hX (v := nI (k + 1)) dX25_gather_176 rfl (ix_inc rfl) (by decide) ?_
      refine jj_goto (pc := 179) hX 143 dX25_gather_179 rfl ?_
      have e7 := m_u1_0 (s := s) (k := k) (j := 36) (σ := σ)
      have e8 : m_u1 s k σ = m_u σ 38 k (σ.1 38 s) := by unfold m_u1; rw [if_pos h160]
      rw [e8] at he e7
      refine jj_ls [(0, jR (some 0)), (1, jI h), (2, jI (nI s)), (3, jI ab), (4, jI (nI (k + 1)))] ⟨rfl, rfl, rfl, rfl, rfl, trivial⟩ ?_
      exact ih (k + 1) _ (by omega) (e7.trans hseg) he K

theorem w_ga_l {X : jj_X} (hX : jj_ok X cX25_gather "BranchCellsModel" 5 2 44 0 0) {Q : State → Prop} (h : Int32) (σe : jm) : ∀ (n s : Nat) (σ : jm), m_gd n s σ → m_ga n s σ = σe → (∀ x, jj_J X Q 0 0 191 [(0, jR (some 0)), (1, jI h), (2, jI x)] [] jm_T σe.1 σe.2 jm_R) → jj_J X Q 0 0 17 [(0, jR (some 0)), (1, jI h), (2, jI (nI s))] [] jm_T σ.1 σ.2 jm_R := by
  intro n
  induction n with
  | zero => intro s σ hd; exact hd.elim
  | succ n ih =>
    intro s σ hd he K
    obtain ⟨hv, h1, h2⟩ := hd
    have hS := hv.S
    unfold m_ga at he
    by_cases h3 : s < nv (σ.1 0 36)
    · have h9 : ¬ σ.1 0 36 ≤ nI s := by rw [hv.ts.2.1]; exact nI_ge (by omega) (by omega)
      rw [if_pos h3] at he
      obtain ⟨g1, g2⟩ := h2 h3
      refine jj_iload_n (pc := 17) hX dX25_gather_17 rfl ?_
      refine jj_aload_n (pc := 18) hX dX25_gather_18 rfl ?_
      refine jj_getI (pc := 19) hX fl_X25_157_25 dX25_gather_19 rfl rfl ?_
      refine jj_icmp_ge (pc := 22) hX 191 dX25_gather_22 rfl (fun q => absurd q h9) (fun _ => ?_)
      refine jj_aload_n (pc := 25) hX dX25_gather_25 rfl ?_
      refine jj_getR (pc := 26) hX (x := some 41) fl_X25_111_25 dX25_gather_26 rfl rfl rfl ?_
      refine jj_iload_n (pc := 29) hX dX25_gather_29 rfl ?_
      refine jj_zald (pc := 30) hX s dX25_gather_30 rfl rfl rfl ⟨by omega, by omega⟩ ?_
      refine jj_if_eq (pc := 31) hX 42 dX25_gather_31 rfl (fun h31 => ?_) (fun h31 => ?_)
      · refine jj_bipush (pc := 42) hX (v := (-4)) dX25_gather_42 (by decide) ?_
        have e8 : m_abv s σ = (-4) := by unfold m_abv; rw [if_pos h31]
        refine jj_top (m_abv s σ) e8.symm ?_
        refine jj_istore_n (pc := 44) hX dX25_gather_44 (by decide) ?_
        refine jj_iload_n (pc := 45) hX dX25_gather_45 rfl ?_
        refine jj_bipush (pc := 46) hX (v := (-4)) dX25_gather_46 (by decide) ?_
        refine jj_icmp_ne (pc := 48) hX 57 dX25_gather_48 rfl (fun h48 => ?_) (fun h48 => ?_)
        · rw [if_neg h48] at he
          obtain ⟨⟨g3, g4, g6⟩, g5⟩ := g2 h48
          refine jj_iconst (pc := 57) hX (v := 0) dX25_gather_57 (by decide) ?_
          refine jj_istore (pc := 58) hX dX25_gather_58 (by decide) ?_
          refine jj_ls [(0, jR (some 0)), (1, jI h), (2, jI (nI s)), (3, jI (m_abv s σ)), (4, jI (nI 0))] ⟨rfl, rfl, rfl, rfl, rfl, trivial⟩ ?_
          refine w_ga_c hX (nv (m_abv s σ)) s h _ g3 (by omega) (by omega) _ 16 0 σ rfl rfl ?_
          refine jj_iconst (pc := 140) hX (v := 0) dX25_gather_140 (by decide) ?_
          refine jj_istore (pc := 141) hX dX25_gather_141 (by decide) ?_
          refine jj_ls [(0, jR (some 0)), (1, jI h), (2, jI (nI s)), (3, jI (m_abv s σ)), (4, jI (nI 0))] ⟨rfl, rfl, rfl, rfl, rfl, trivial⟩ ?_
          refine w_ga_u hX s (nv (σ.1 0 36)) h _ (by omega) (by omega) _ (nv (σ.1 0 36)) 0 (m_cp (nv (m_abv s σ)) s 16 0 σ) (Nat.zero_add _) ((m_cp_0 16 0 σ).trans hv.ts.2.1) rfl ?_
          refine jj_aload_n (pc := 182) hX dX25_gather_182 rfl ?_
          refine jj_callV (pc := 183) hX (w_hold X.1 (m_ub s (nv (σ.1 0 36)) 0 (m_cp (nv (m_abv s σ)) s 16 0 σ)) g6) dX25_gather_183 (lw_V q1771 q1773 qs46 q78 q1774) rfl ⟨by decide +kernel, by decide +kernel, by show _ = some (0 : Nat); decide +kernel⟩ ⟨Nat.le_of_ble_eq_true rfl, Nat.le_of_ble_eq_true rfl, Nat.le_of_ble_eq_true rfl, Nat.le_of_ble_eq_true rfl, Nat.le_of_ble_eq_true rfl⟩ (fun q => by cases q) rfl jc_25 rfl (jj_keq ?_) jj_kno
          refine jj_iconst (pc := 186) hX (v := 0) dX25_gather_186 (by decide) ?_
          refine jj_istore_n (pc := 187) hX dX25_gather_187 (by decide) ?_
          refine jj_goto (pc := 188) hX 17 dX25_gather_188 rfl ?_
          refine jj_ls [(0, jR (some 0)), (1, jI h), (2, jI (nI 0))] ⟨rfl, rfl, rfl, trivial⟩ ?_
          exact ih 0 _ g5 he K
        · refine jj_iinc (pc := 51) hX (v := nI (s + 1)) dX25_gather_51 rfl (ix_inc rfl) (by decide) ?_
          refine jj_goto (pc := 54) hX 188 dX25_gather_54 rfl ?_
          refine jj_goto (pc := 188) hX 17 dX25_gather_188 rfl ?_
          rw [if_pos h48] at he
          refine jj_ls [(0, jR (some 0)), (1, jI h), (2, jI (nI (s + 1)))] ⟨rfl, rfl, rfl, trivial⟩ ?_
          exact ih (s + 1) _ (g1 h48) he K
      · refine jj_aload_n (pc := 34) hX dX25_gather_34 rfl ?_
        refine jj_iload_n (pc := 35) hX dX25_gather_35 rfl ?_
        refine jj_callV (pc := 36) hX (w_goesTo X.1 σ hv _) dX25_gather_36 (lw_V q1775 q1777 qs47 q78 q1778) rfl ⟨by decide +kernel, by decide +kernel, by show _ = some (1 : Nat); decide +kernel⟩ ⟨Nat.le_of_ble_eq_true rfl, Nat.le_of_ble_eq_true rfl, Nat.le_of_ble_eq_true rfl, Nat.le_of_ble_eq_true rfl, Nat.le_of_ble_eq_true rfl⟩ (fun q => by cases q) rfl jc_25 rfl (jj_keq ?_) jj_kno
        refine jj_goto (pc := 39) hX 44 dX25_gather_39 rfl ?_
        have e8 : m_abv s σ = (m_goes σ (nI s)) := by unfold m_abv; rw [if_neg h31]
        refine jj_top (m_abv s σ) e8.symm ?_
        refine jj_istore_n (pc := 44) hX dX25_gather_44 (by decide) ?_
        refine jj_iload_n (pc := 45) hX dX25_gather_45 rfl ?_
        refine jj_bipush (pc := 46) hX (v := (-4)) dX25_gather_46 (by decide) ?_
        refine jj_icmp_ne (pc := 48) hX 57 dX25_gather_48 rfl (fun h48 => ?_) (fun h48 => ?_)
        · rw [if_neg h48] at he
          obtain ⟨⟨g3, g4, g6⟩, g5⟩ := g2 h48
          refine jj_iconst (pc := 57) hX (v := 0) dX25_gather_57 (by decide) ?_
          refine jj_istore (pc := 58) hX dX25_gather_58 (by decide) ?_
          refine jj_ls [(0, jR (some 0)), (1, jI h), (2, jI (nI s)), (3, jI (m_abv s σ)), (4, jI (nI 0))] ⟨rfl, rfl, rfl, rfl, rfl, trivial⟩ ?_
          refine w_ga_c hX (nv (m_abv s σ)) s h _ g3 (by omega) (by omega) _ 16 0 σ rfl rfl ?_
          refine jj_iconst (pc := 140) hX (v := 0) dX25_gather_140 (by decide) ?_
          refine jj_istore (pc := 141) hX dX25_gather_141 (by decide) ?_
          refine jj_ls [(0, jR (some 0)), (1, jI h), (2, jI (nI s)), (3, jI (m_abv s σ)), (4, jI (nI 0))] ⟨rfl, rfl, rfl, rfl, rfl, trivial⟩ ?_
          refine w_ga_u hX s (nv (σ.1 0 36)) h _ (by omega) (by omega) _ (nv (σ.1 0 36)) 0 (m_cp (nv (m_abv s σ)) s 16 0 σ) (Nat.zero_add _) ((m_cp_0 16 0 σ).trans hv.ts.2.1) rfl ?_
          refine jj_aload_n (pc := 182) hX dX25_gather_182 rfl ?_
          refine jj_callV (pc := 183) hX (w_hold X.1 (m_ub s (nv (σ.1 0 36)) 0 (m_cp (nv (m_abv s σ)) s 16 0 σ)) g6) dX25_gather_183 (lw_V q1771 q1773 qs46 q78 q1774) rfl ⟨by decide +kernel, by decide +kernel, by show _ = some (0 : Nat); decide +kernel⟩ ⟨Nat.le_of_ble_eq_true rfl, Nat.le_of_ble_eq_true rfl, Nat.le_of_ble_eq_true rfl, Nat.le_of_ble_eq_true rfl, Nat.le_of_ble_eq_true rfl⟩ (fun q => by cases q) rfl jc_25 rfl (jj_keq ?_) jj_kno
          refine jj_iconst (pc := 186) hX (v := 0) dX25_gather_186 (by decide) ?_
          refine jj_istore_n (pc := 187) hX dX25_gather_187 (by decide) ?_
          refine jj_goto (pc := 188) hX 17 dX25_gather_188 rfl ?_
          refine jj_ls [(0, jR (some 0)), (1, jI h), (2, jI (nI 0))] ⟨rfl, rfl, rfl, trivial⟩ ?_
          exact ih 0 _ g5 he K
        · refine jj_iinc (pc := 51) hX (v := nI (s + 1)) dX25_gather_51 rfl (ix_inc rfl) (by decide) ?_
          refine jj_goto (pc := 54) hX 188 dX25_gather_54 rfl ?_
          refine jj_goto (pc := 188) hX 17 dX25_gather_188 rfl ?_
          rw [if_pos h48] at he
          refine jj_ls [(0, jR (some 0)), (1, jI h), (2, jI (nI (s + 1)))] ⟨rfl, rfl, rfl, trivial⟩ ?_
          exact ih (s + 1) _ (g1 h48) he K
    · have h9 : σ.1 0 36 ≤ nI s := by rw [hv.ts.2.1]; exact nI_le (by omega) (by omega)
      rw [if_neg h3] at he
      subst he
      refine jj_iload_n (pc := 17) hX dX25_gather_17 rfl ?_
      refine jj_aload_n (pc := 18) hX dX25_gather_18 rfl ?_
      refine jj_getI (pc := 19) hX fl_X25_157_25 dX25_gather_19 rfl rfl ?_
      refine jj_icmp_ge (pc := 22) hX 191 dX25_gather_22 rfl (fun _ => ?_) (fun q => absurd h9 q)
      refine jj_ls [(0, jR (some 0)), (1, jI h), (2, jI (nI s))] ⟨rfl, rfl, rfl, trivial⟩ ?_
      exact K _

theorem w_gather (G : jj_G) (σ : jm) (hg : m_gdk) (hv : m_inv σ) : jm_M G yX25_gather cX25_gather 5 (some .int) 2 44 [] σ ((m_gathR σ).2) (some (jI (m_gathR σ).1)) := by
  refine jj_intro "BranchCellsModel" (by decide) rfl (Nat.le_of_ble_eq_true rfl) ?_
  intro X hG hX hr hN hC hF
  subst hG
  refine jj_aload_n (pc := 0) hX dX25_gather_0 rfl ?_
  refine jj_getI (pc := 1) hX fl_X25_130_25 dX25_gather_1 rfl rfl ?_
  refine jj_if_ne (pc := 4) hX 10 dX25_gather_4 rfl (fun h4 => ?_) (fun h4 => ?_)
  · refine jj_aload_n (pc := 10) hX dX25_gather_10 rfl ?_
    refine jj_callV (pc := 11) hX (w_versions X.1 σ hv) dX25_gather_11 (lw_V q1767 q1769 qs45 q78 q1770) rfl ⟨by decide +kernel, by decide +kernel, by show _ = some (0 : Nat); decide +kernel⟩ ⟨Nat.le_of_ble_eq_true rfl, Nat.le_of_ble_eq_true rfl, Nat.le_of_ble_eq_true rfl, Nat.le_of_ble_eq_true rfl, Nat.le_of_ble_eq_true rfl⟩ (fun q => by cases q) rfl jc_25 rfl (jj_keq ?_) jj_kno
    refine jj_istore_n (pc := 14) hX dX25_gather_14 (by decide) ?_
    refine jj_iconst (pc := 15) hX (v := 0) dX25_gather_15 (by decide) ?_
    refine jj_istore_n (pc := 16) hX dX25_gather_16 (by decide) ?_
    have q1 : m_gathR σ = (nI (m_vers (m_hold σ)) - nI (m_vers (m_hold (m_gaE σ))), m_hold (m_gaE σ)) := by unfold m_gathR; rw [if_neg h4]
    rw [q1]
    refine jj_ls [(0, jR (some 0)), (1, jI (nI (m_vers (m_hold σ)))), (2, jI (nI 0))] ⟨rfl, rfl, rfl, trivial⟩ ?_
    refine w_ga_l hX _ (m_gaE σ) 6500 0 (m_hold σ) (hg σ hv) rfl (fun x9 => ?_)
    refine jj_iload_n (pc := 191) hX dX25_gather_191 rfl ?_
    refine jj_aload_n (pc := 192) hX dX25_gather_192 rfl ?_
    refine jj_callV (pc := 193) hX (w_versions X.1 (m_gaE σ) (m_ga_inv _ _ _ (hg σ hv))) dX25_gather_193 (lw_V q1767 q1769 qs45 q78 q1770) rfl ⟨by decide +kernel, by decide +kernel, by show _ = some (0 : Nat); decide +kernel⟩ ⟨Nat.le_of_ble_eq_true rfl, Nat.le_of_ble_eq_true rfl, Nat.le_of_ble_eq_true rfl, Nat.le_of_ble_eq_true rfl, Nat.le_of_ble_eq_true rfl⟩ (fun q => by cases q) rfl jc_25 rfl (jj_keq ?_) jj_kno
    refine jj_isub (pc := 196) hX dX25_gather_196 ?_
    exact jj_iret (pc := 197) hX dX25_gather_197 hr ⟨Nat.le_refl _, Nat.le_refl _⟩ (⟨rfl, rfl, rfl, rfl, rfl⟩)
  · refine jj_bipush (pc := 7) hX (v := (-2)) dX25_gather_7 (by decide) ?_
    refine jj_iret (pc := 9) hX dX25_gather_9 hr ⟨Nat.le_refl _, Nat.le_refl _⟩ ?_
    unfold m_gathR
    rw [if_pos h4]
    exact ⟨rfl, rfl, rfl, rfl, rfl⟩
