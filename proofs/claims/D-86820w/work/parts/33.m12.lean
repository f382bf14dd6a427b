set_option maxRecDepth 100000

def m_d0 : Nat → Nat → Int64 → jm → Int64 × jm
  | 0, _, h, σ => (h, σ)
  | n + 1, w, h, σ => m_d0 n (w + 1) (31 * h + (m_countV σ (nI w)).toInt64) (m_countS σ (nI w))
def m_d1 (σ : jm) : Nat → Nat → Int64 → Int64
  | 0, _, h => h
  | n + 1, c, h => m_d1 σ n (c + 1) (31 * h + (σ.1 9 c).toInt64)
def m_d2 (σ : jm) (t : Nat) : Nat → Nat → Int64 → Int64
  | 0, _, h => h
  | n + 1, w, h => m_d2 σ t n (w + 1) (31 * h + (m_about σ (nI t) (nI w)).toInt64)
def m_d3 (σ : jm) (t : Nat) : Nat → Nat → Int64 → Int64
  | 0, _, h => h
  | n + 1, k, h => m_d3 σ t n (k + 1) (31 * h + σ.2 33 (60 * t + k))
def m_d4 (σ : jm) (t : Nat) : Nat → Nat → Int64 → Int64
  | 0, _, h => h
  | n + 1, c, h => m_d4 σ t n (c + 1) (31 * h + m_read σ (nI t) (nI c))
def m_d6 (σ : jm) (t : Nat) (h : Int64) : Int64 := m_d4 σ t 16 0 (m_d3 σ t (nv (σ.1 34 t)) 0 (31 * (31 * m_d2 σ t 14 0 h + m_result σ (nI t)) + σ.2 24 t))
def m_d5 (σ : jm) : Nat → Nat → Int64 → Int64
  | 0, _, h => h
  | n + 1, t, h => m_d5 σ n (t + 1) (m_d6 σ t h)
def m_digS (σ : jm) : jm := (m_d0 10 0 13 σ).2
def m_digV (σ : jm) : Int64 := m_d5 (m_digS σ) (nv ((m_digS σ).1 0 11)) 0 (m_d1 (m_digS σ) 16 0 (m_d0 10 0 13 σ).1)
theorem m_inv.ct {σ : jm} (h : m_inv σ) (w : Int32) : m_inv (m_countS σ w) := by
  unfold m_countS
  split
  · exact h.ctS _
  · exact h
theorem m_inv.d0 : ∀ (n w : Nat) (h : Int64) (σ : jm), m_inv σ → m_inv (m_d0 n w h σ).2
  | 0, _, _, _, hv => hv
  | n + 1, w, _, σ, hv => m_inv.d0 n (w + 1) _ _ (hv.ct (nI w))

theorem w_dig_1 {X : jj_X} (hX : jj_ok X cX25_digest "BranchCellsModel" 5 3 68 0 0) {Q : State → Prop} (σ : jm) (hv : m_inv σ)  : ∀ (n k : Nat) (h : Int64), k + n = 16 → jj_J X Q 0 0 59 [(0, jR (some 0)), (1, jL (m_d1 σ n k h))] [] jm_T σ.1 σ.2 jm_R → jj_J X Q 0 0 33 [(0, jR (some 0)), (1, jL h), (3, jI (nI k))] [] jm_T σ.1 σ.2 jm_R := by
  intro n
  induction n with
  | zero =>
    intro k h hn K
    obtain rfl : k = 16 := by omega
    have h9 : (16 : Int32) ≤ nI 16 := by decide
    unfold m_d1 at K
    refine jj_iload_n (pc := 33) hX dX25_digest_33 rfl ?_
    refine jj_bipush (pc := 34) hX (v := 16) dX25_digest_34 (by decide) ?_
    refine jj_icmp_ge (pc := 36) hX 59 dX25_digest_36 rfl (fun _ => ?_) (fun q => absurd h9 q)
    refine jj_ls [(0, jR (some 0)), (1, jL h)] ⟨rfl, rfl, trivial⟩ ?_
    exact K
  | succ n ih =>
    intro k h hn K
    have h9 : ¬ (16 : Int32) ≤ nI k := by rw [show (16 : Int32) = nI 16 from rfl]; exact nI_ge (by omega) (by decide)
    unfold m_d1 at K
    refine jj_iload_n (pc := 33) hX dX25_digest_33 rfl ?_
    refine jj_bipush (pc := 34) hX (v := 16) dX25_digest_34 (by decide) ?_
    refine jj_icmp_ge (pc := 36) hX 59 dX25_digest_36 rfl (fun q => absurd q h9) (fun _ => ?_)
    refine jj_ldc2 (pc := 39) hX (v := 31) q1676 dX25_digest_39 ?_
    refine jj_lload_n (pc := 42) hX dX25_digest_42 rfl ?_
    refine jj_lmul (pc := 43) hX dX25_digest_43 ?_
    refine jj_aload_n (pc := 44) hX dX25_digest_44 rfl ?_
    refine jj_getR (pc := 45) hX (x := some 9) fl_X25_28_25 dX25_digest_45 rfl rfl rfl ?_
    refine jj_iload_n (pc := 48) hX dX25_digest_48 rfl ?_
    refine jj_iald (pc := 49) hX k dX25_digest_49 rfl rfl rfl ⟨by omega, by omega⟩ ?_
    refine jj_i2l (pc := 50) hX dX25_digest_50 ?_
    refine jj_ladd (pc := 51) hX dX25_digest_51 ?_
    refine jj_lstore_n (pc := 52) hX dX25_digest_52 (by decide) ?_
    refine jj_iinc (pc := 53) hX (v := nI (k + 1)) dX25_digest_53 rfl (ix_inc rfl) (by decide) ?_
    refine jj_goto (pc := 56) hX 33 dX25_digest_56 rfl ?_
    refine jj_ls [(0, jR (some 0)), (1, jL ((31 * h) + ((σ.1 9 k)).toInt64)), (3, jI (nI (k + 1)))] ⟨rfl, rfl, rfl, trivial⟩ ?_
    exact ih (k + 1) _ (by omega) K

theorem w_dig_2 {X : jj_X} (hX : jj_ok X cX25_digest "BranchCellsModel" 5 3 68 0 0) {Q : State → Prop} (σ : jm) (hv : m_inv σ) (t : Nat) (ht : t < nv (σ.1 0 11)) : ∀ (n k : Nat) (h : Int64), k + n = 14 → jj_J X Q 0 0 100 [(0, jR (some 0)), (3, jI (nI t)), (1, jL (m_d2 σ t n k h))] [] jm_T σ.1 σ.2 jm_R → jj_J X Q 0 0 72 [(0, jR (some 0)), (3, jI (nI t)), (1, jL h), (4, jI (nI k))] [] jm_T σ.1 σ.2 jm_R := by
  intro n
  induction n with
  | zero =>
    intro k h hn K
    obtain rfl : k = 14 := by omega
    have h9 : (14 : Int32) ≤ nI 14 := by decide
    unfold m_d2 at K
    refine jj_iload (pc := 72) hX dX25_digest_72 rfl ?_
    refine jj_bipush (pc := 74) hX (v := 14) dX25_digest_74 (by decide) ?_
    refine jj_icmp_ge (pc := 76) hX 100 dX25_digest_76 rfl (fun _ => ?_) (fun q => absurd h9 q)
    refine jj_ls [(0, jR (some 0)), (3, jI (nI t)), (1, jL h)] ⟨rfl, rfl, rfl, trivial⟩ ?_
    exact K
  | succ n ih =>
    intro k h hn K
    have h9 : ¬ (14 : Int32) ≤ nI k := by rw [show (14 : Int32) = nI 14 from rfl]; exact nI_ge (by omega) (by decide)
    unfold m_d2 at K
    refine jj_iload (pc := 72) hX dX25_digest_72 rfl ?_
    refine jj_bipush (pc := 74) hX (v := 14) dX25_digest_74 (by decide) ?_
    refine jj_icmp_ge (pc := 76) hX 100 dX25_digest_76 rfl (fun q => absurd q h9) (fun _ => ?_)
    refine jj_ldc2 (pc := 79) hX (v := 31) q1676 dX25_digest_79 ?_
    refine jj_lload_n (pc := 82) hX dX25_digest_82 rfl ?_
    refine jj_lmul (pc := 83) hX dX25_digest_83 ?_
    refine jj_aload_n (pc := 84) hX dX25_digest_84 rfl ?_
    refine jj_iload_n (pc := 85) hX dX25_digest_85 rfl ?_
    refine jj_iload (pc := 86) hX dX25_digest_86 rfl ?_
    refine jj_callV (pc := 88) hX (w_about X.1 σ hv _ _) dX25_digest_88 (lw_V q1801 q1744 q1745 q78 q1746) rfl ⟨by decide +kernel, by decide +kernel, by show _ = some (2 : Nat); decide +kernel⟩ ⟨Nat.le_of_ble_eq_true rfl, Nat.le_of_ble_eq_true rfl, Nat.le_of_ble_eq_true rfl, Nat.le_of_ble_eq_true rfl, Nat.le_of_ble_eq_true rfl⟩ (fun q => by cases q) rfl jc_25 rfl (jj_keq ?_) jj_kno
    refine jj_i2l (pc := 91) hX dX25_digest_91 ?_
    refine jj_ladd (pc := 92) hX dX25_digest_92 ?_
    refine jj_lstore_n (pc := 93) hX dX25_digest_93 (by decide) ?_
    refine jj_iinc (pc := 94) hX (v := nI (k + 1)) dX25_digest_94 rfl (ix_inc rfl) (by decide) ?_
    refine jj_goto (pc := 97) hX 72 dX25_digest_97 rfl ?_
    refine jj_ls [(0, jR (some 0)), (3, jI (nI t)), (1, jL ((31 * h) + ((m_about σ (nI t) (nI k))).toInt64)), (4, jI (nI (k + 1)))] ⟨rfl, rfl, rfl, rfl, trivial⟩ ?_
    exact ih (k + 1) _ (by omega) K

theorem w_dig_3 {X : jj_X} (hX : jj_ok X cX25_digest "BranchCellsModel" 5 3 68 0 0) {Q : State → Prop} (σ : jm) (hv : m_inv σ) (t : Nat) (ht : t < nv (σ.1 0 11)) : ∀ (n k : Nat) (h : Int64), k + n = nv (σ.1 34 t) → jj_J X Q 0 0 162 [(0, jR (some 0)), (3, jI (nI t)), (1, jL (m_d3 σ t n k h))] [] jm_T σ.1 σ.2 jm_R → jj_J X Q 0 0 126 [(0, jR (some 0)), (3, jI (nI t)), (1, jL h), (4, jI (nI k))] [] jm_T σ.1 σ.2 jm_R := by
  have hO := (hv.tk t ht).po.2
  have hO2 := hO.2
  have hT9 := hv.T
  intro n
  induction n with
  | zero =>
    intro k h hn K
    have h9 : σ.1 34 t ≤ nI k := by rw [hO.1]; exact nI_le (by omega) (by omega)
    unfold m_d3 at K
    refine jj_iload (pc := 126) hX dX25_digest_126 rfl ?_
    refine jj_aload_n (pc := 128) hX dX25_digest_128 rfl ?_
    refine jj_getR (pc := 129) hX (x := some 34) fl_X25_99_25 dX25_digest_129 rfl rfl rfl ?_
    refine jj_iload_n (pc := 132) hX dX25_digest_132 rfl ?_
    refine jj_iald (pc := 133) hX t dX25_digest_133 rfl rfl rfl ⟨by omega, by omega⟩ ?_
    refine jj_icmp_ge (pc := 134) hX 162 dX25_digest_134 rfl (fun _ => ?_) (fun q => absurd h9 q)
    refine jj_ls [(0, jR (some 0)), (3, jI (nI t)), (1, jL h)] ⟨rfl, rfl, rfl, trivial⟩ ?_
    exact K
  | succ n ih =>
    intro k h hn K
    have h9 : ¬ σ.1 34 t ≤ nI k := by rw [hO.1]; exact nI_ge (by omega) (by omega)
    unfold m_d3 at K
    refine jj_iload (pc := 126) hX dX25_digest_126 rfl ?_
    refine jj_aload_n (pc := 128) hX dX25_digest_128 rfl ?_
    refine jj_getR (pc := 129) hX (x := some 34) fl_X25_99_25 dX25_digest_129 rfl rfl rfl ?_
    refine jj_iload_n (pc := 132) hX dX25_digest_132 rfl ?_
    refine jj_iald (pc := 133) hX t dX25_digest_133 rfl rfl rfl ⟨by omega, by omega⟩ ?_
    refine jj_icmp_ge (pc := 134) hX 162 dX25_digest_134 rfl (fun q => absurd q h9) (fun _ => ?_)
    refine jj_ldc2 (pc := 137) hX (v := 31) q1676 dX25_digest_137 ?_
    refine jj_lload_n (pc := 140) hX dX25_digest_140 rfl ?_
    refine jj_lmul (pc := 141) hX dX25_digest_141 ?_
    refine jj_aload_n (pc := 142) hX dX25_digest_142 rfl ?_
    refine jj_getR (pc := 143) hX (x := some 33) fl_X25_96_25 dX25_digest_143 rfl rfl rfl ?_
    refine jj_bipush (pc := 146) hX (v := 60) dX25_digest_146 (by decide) ?_
    refine jj_iload_n (pc := 148) hX dX25_digest_148 rfl ?_
    refine jj_imul (pc := 149) hX dX25_digest_149 ?_
    refine jj_iload (pc := 150) hX dX25_digest_150 rfl ?_
    refine jj_iadd (pc := 152) hX dX25_digest_152 ?_
    refine jj_lald (pc := 153) hX ((60 * t) + k) dX25_digest_153 rfl rfl (ix_add (ix_mul rfl rfl) rfl) ⟨by omega, by omega⟩ ?_
    refine jj_ladd (pc := 154) hX dX25_digest_154 ?_
    refine jj_lstore_n (pc := 155) hX dX25_digest_155 (by decide) ?_
    refine jj_iinc (pc := 156) hX (v := nI (k + 1)) dX25_digest_156 rfl (ix_inc rfl) (by decide) ?_
    refine jj_goto (pc := 159) hX 126 dX25_digest_159 rfl ?_
    refine jj_ls [(0, jR (some 0)), (3, jI (nI t)), (1, jL ((31 * h) + (σ.2 33 ((60 * t) + k)))), (4, jI (nI (k + 1)))] ⟨rfl, rfl, rfl, rfl, trivial⟩ ?_
    exact ih (k + 1) _ (by omega) K

theorem w_dig_4 {X : jj_X} (hX : jj_ok X cX25_digest "BranchCellsModel" 5 3 68 0 0) {Q : State → Prop} (σ : jm) (hv : m_inv σ) (t : Nat) (ht : t < nv (σ.1 0 11)) : ∀ (n k : Nat) (h : Int64), k + n = 16 → jj_J X Q 0 0 192 [(0, jR (some 0)), (3, jI (nI t)), (1, jL (m_d4 σ t n k h))] [] jm_T σ.1 σ.2 jm_R → jj_J X Q 0 0 165 [(0, jR (some 0)), (3, jI (nI t)), (1, jL h), (4, jI (nI k))] [] jm_T σ.1 σ.2 jm_R := by
  intro n
  induction n with
  | zero =>
    intro k h hn K
    obtain rfl : k = 16 := by omega
    have h9 : (16 : Int32) ≤ nI 16 := by decide
    unfold m_d4 at K
    refine jj_iload (pc := 165) hX dX25_digest_165 rfl ?_
    refine jj_bipush (pc := 167) hX (v := 16) dX25_digest_167 (by decide) ?_
    refine jj_icmp_ge (pc := 169) hX 192 dX25_digest_169 rfl (fun _ => ?_) (fun q => absurd h9 q)
    refine jj_ls [(0, jR (some 0)), (3, jI (nI t)), (1, jL h)] ⟨rfl, rfl, rfl, trivial⟩ ?_
    exact K
  | succ n ih =>
    intro k h hn K
    have h9 : ¬ (16 : Int32) ≤ nI k := by rw [show (16 : Int32) = nI 16 from rfl]; exact nI_ge (by omega) (by decide)
    unfold m_d4 at K
    refine jj_iload (pc := 165) hX dX25_digest_165 rfl ?_
    refine jj_bipush (pc := 167) hX (v := 16) dX25_digest_167 (by decide) ?_
    refine jj_icmp_ge (pc := 169) hX 192 dX25_digest_169 rfl (fun q => absurd q h9) (fun _ => ?_)
    refine jj_ldc2 (pc := 172) hX (v := 31) q1676 dX25_digest_172 ?_
    refine jj_lload_n (pc := 175) hX dX25_digest_175 rfl ?_
    refine jj_lmul (pc := 176) hX dX25_digest_176 ?_
    refine jj_aload_n (pc := 177) hX dX25_digest_177 rfl ?_
    refine jj_iload_n (pc := 178) hX dX25_digest_178 rfl ?_
    refine jj_iload (pc := 179) hX dX25_digest_179 rfl ?_
    refine jj_callV (pc := 181) hX (w_read X.1 σ hv _ _) dX25_digest_181 (lw_V q1803 q1756 q1757 q78 q1758) rfl ⟨by decide +kernel, by decide +kernel, by show _ = some (2 : Nat); decide +kernel⟩ ⟨Nat.le_of_ble_eq_true rfl, Nat.le_of_ble_eq_true rfl, Nat.le_of_ble_eq_true rfl, Nat.le_of_ble_eq_true rfl, Nat.le_of_ble_eq_true rfl⟩ (fun q => by cases q) rfl jc_25 rfl (jj_keq ?_) jj_kno
    refine jj_ladd (pc := 184) hX dX25_digest_184 ?_
    refine jj_lstore_n (pc := 185) hX dX25_digest_185 (by decide) ?_
    refine jj_iinc (pc := 186) hX (v := nI (k + 1)) dX25_digest_186 rfl (ix_inc rfl) (by decide) ?_
    refine jj_goto (pc := 189) hX 165 dX25_digest_189 rfl ?_
    refine jj_ls [(0, jR (some 0)), (3, jI (nI t)), (1, jL ((31 * h) + (m_read σ (nI t) (nI k)))), (4, jI (nI (k + 1)))] ⟨rfl, rfl, rfl, rfl, trivial⟩ ?_
    exact ih (k + 1) _ (by omega) K

theorem w_dig_5 {X : jj_X} (hX : jj_ok X cX25_digest "BranchCellsModel" 5 3 68 0 0) (hr : jj_Ret X (some .long)) (σ : jm) (hv : m_inv σ) : ∀ (n t : Nat) (h : Int64), t + n = nv (σ.1 0 11) → jj_J X (jj_End X (jj_eq (some (jL (m_d5 σ n t h))) jm_T σ.1 σ.2 jm_R) jj_no 0 0) 0 0 61 [(0, jR (some 0)), (1, jL h), (3, jI (nI t))] [] jm_T σ.1 σ.2 jm_R := by
  have hT := hv.T
  intro n
  induction n with
  | zero =>
    intro t h hn
    have h9 : σ.1 0 11 ≤ nI t := by rw [hv.ts.1]; exact nI_le (by omega) (by omega)
    unfold m_d5
    refine jj_iload_n (pc := 61) hX dX25_digest_61 rfl ?_
    refine jj_aload_n (pc := 62) hX dX25_digest_62 rfl ?_
    refine jj_getI (pc := 63) hX fl_X25_160_25 dX25_digest_63 rfl rfl ?_
    refine jj_icmp_ge (pc := 66) hX 198 dX25_digest_66 rfl (fun _ => ?_) (fun q => absurd h9 q)
    refine jj_lload_n (pc := 198) hX dX25_digest_198 rfl ?_
    exact jj_lret (pc := 199) hX dX25_digest_199 hr ⟨Nat.le_refl _, Nat.le_refl _⟩ (⟨rfl, rfl, rfl, rfl, rfl⟩)
  | succ n ih =>
    intro t h hn
    have h9 : ¬ σ.1 0 11 ≤ nI t := by rw [hv.ts.1]; exact nI_ge (by omega) (by omega)
    unfold m_d5
    have ht : t < nv (σ.1 0 11) := by omega
    have hO := (hv.tk t ht).po.2.1
    refine jj_iload_n (pc := 61) hX dX25_digest_61 rfl ?_
    refine jj_aload_n (pc := 62) hX dX25_digest_62 rfl ?_
    refine jj_getI (pc := 63) hX fl_X25_160_25 dX25_digest_63 rfl rfl ?_
    refine jj_icmp_ge (pc := 66) hX 198 dX25_digest_66 rfl (fun q => absurd q h9) (fun _ => ?_)
    refine jj_iconst (pc := 69) hX (v := 0) dX25_digest_69 (by decide) ?_
    refine jj_istore (pc := 70) hX dX25_digest_70 (by decide) ?_
    refine jj_ls [(0, jR (some 0)), (3, jI (nI t)), (1, jL h), (4, jI (nI 0))] ⟨rfl, rfl, rfl, rfl, trivial⟩ ?_
    refine w_dig_2 hX σ hv t ht (14) 0 h (Nat.zero_add _) ?_
    refine jj_ldc2 (pc := 100) hX (v := 31) q1676 dX25_digest_100 ?_
    refine jj_ldc2 (pc := 103) hX (v := 31) q1676 dX25_digest_103 ?_
    refine jj_lload_n (pc := 106) hX dX25_digest_106 rfl ?_
    refine jj_lmul (pc := 107) hX dX25_digest_107 ?_
    refine jj_aload_n (pc := 108) hX dX25_digest_108 rfl ?_
    refine jj_iload_n (pc := 109) hX dX25_digest_109 rfl ?_
    refine jj_callV (pc := 110) hX (w_result X.1 σ hv _) dX25_digest_110 (lw_V q1802 q1748 q1749 q78 q1750) rfl ⟨by decide +kernel, by decide +kernel, by show _ = some (1 : Nat); decide +kernel⟩ ⟨Nat.le_of_ble_eq_true rfl, Nat.le_of_ble_eq_true rfl, Nat.le_of_ble_eq_true rfl, Nat.le_of_ble_eq_true rfl, Nat.le_of_ble_eq_true rfl⟩ (fun q => by cases q) rfl jc_25 rfl (jj_keq ?_) jj_kno
    refine jj_ladd (pc := 113) hX dX25_digest_113 ?_
    refine jj_lmul (pc := 114) hX dX25_digest_114 ?_
    refine jj_aload_n (pc := 115) hX dX25_digest_115 rfl ?_
    refine jj_getR (pc := 116) hX (x := some 24) fl_X25_68_25 dX25_digest_116 rfl rfl rfl ?_
    refine jj_iload_n (pc := 119) hX dX25_digest_119 rfl ?_
    refine jj_lald (pc := 120) hX t dX25_digest_120 rfl rfl rfl ⟨by omega, by omega⟩ ?_
    refine jj_ladd (pc := 121) hX dX25_digest_121 ?_
    refine jj_lstore_n (pc := 122) hX dX25_digest_122 (by decide) ?_
    refine jj_iconst (pc := 123) hX (v := 0) dX25_digest_123 (by decide) ?_
    refine jj_istore (pc := 124) hX dX25_digest_124 (by decide) ?_
    refine jj_ls [(0, jR (some 0)), (3, jI (nI t)), (1, jL ((31 * ((31 * (m_d2 σ t (14) 0 h)) + (m_result σ (nI t)))) + (σ.2 24 t))), (4, jI (nI 0))] ⟨rfl, rfl, rfl, rfl, trivial⟩ ?_
    refine w_dig_3 hX σ hv t ht (nv (σ.1 34 t)) 0 ((31 * ((31 * (m_d2 σ t (14) 0 h)) + (m_result σ (nI t)))) + (σ.2 24 t)) (Nat.zero_add _) ?_
    refine jj_iconst (pc := 162) hX (v := 0) dX25_digest_162 (by decide) ?_
    refine jj_istore (pc := 163) hX dX25_digest_163 (by decide) ?_
    refine jj_ls [(0, jR (some 0)), (3, jI (nI t)), (1, jL (m_d3 σ t (nv (σ.1 34 t)) 0 ((31 * ((31 * (m_d2 σ t (14) 0 h)) + (m_result σ (nI t)))) + (σ.2 24 t)))), (4, jI (nI 0))] ⟨rfl, rfl, rfl, rfl, trivial⟩ ?_
    refine w_dig_4 hX σ hv t ht (16) 0 (m_d3 σ t (nv (σ.1 34 t)) 0 ((31 * ((31 * (m_d2 σ t (14) 0 h)) + (m_result σ (nI t)))) + (σ.2 24 t))) (Nat.zero_add _) ?_
    refine jj_iinc (pc := 192) hX (v := nI (t + 1)) dX25_digest_192 rfl (ix_inc rfl) (by decide) ?_
    refine jj_goto (pc := 195) hX 61 dX25_digest_195 rfl ?_
    refine jj_ls [(0, jR (some 0)), (1, jL (m_d6 σ t h)), (3, jI (nI (t + 1)))] ⟨rfl, rfl, rfl, trivial⟩ ?_
    exact ih (t + 1) _ (by omega)

theorem w_dig_0 {X : jj_X} (hX : jj_ok X cX25_digest "BranchCellsModel" 5 3 68 0 0) {Q : State → Prop} (hE : Int64) (σe : jm) : ∀ (n w : Nat) (h : Int64) (σ : jm), m_inv σ → w + n = 10 → m_d0 n w h σ = (hE, σe) → jj_J X Q 0 0 31 [(0, jR (some 0)), (1, jL hE)] [] jm_T σe.1 σe.2 jm_R → jj_J X Q 0 0 6 [(0, jR (some 0)), (1, jL h), (3, jI (nI w))] [] jm_T σ.1 σ.2 jm_R := by
  intro n
  induction n with
  | zero =>
    intro w h σ hv hn he K
    obtain rfl : w = 10 := by omega
    have h9 : (10 : Int32) ≤ nI 10 := by decide
    unfold m_d0 at he
    cases he
    refine jj_iload_n (pc := 6) hX dX25_digest_6 rfl ?_
    refine jj_bipush (pc := 7) hX (v := 10) dX25_digest_7 (by decide) ?_
    refine jj_icmp_ge (pc := 9) hX 31 dX25_digest_9 rfl (fun _ => ?_) (fun q => absurd h9 q)
    refine jj_ls [(0, jR (some 0)), (1, jL hE)] ⟨rfl, rfl, trivial⟩ ?_
    exact K
  | succ n ih =>
    intro w h σ hv hn he K
    have h9 : ¬ (10 : Int32) ≤ nI w := by rw [show (10 : Int32) = nI 10 from rfl]; exact nI_ge (by omega) (by decide)
    unfold m_d0 at he
    refine jj_iload_n (pc := 6) hX dX25_digest_6 rfl ?_
    refine jj_bipush (pc := 7) hX (v := 10) dX25_digest_7 (by decide) ?_
    refine jj_icmp_ge (pc := 9) hX 31 dX25_digest_9 rfl (fun q => absurd q h9) (fun _ => ?_)
    refine jj_ldc2 (pc := 12) hX (v := 31) q1676 dX25_digest_12 ?_
    refine jj_lload_n (pc := 15) hX dX25_digest_15 rfl ?_
    refine jj_lmul (pc := 16) hX dX25_digest_16 ?_
    refine jj_aload_n (pc := 17) hX dX25_digest_17 rfl ?_
    refine jj_iload_n (pc := 18) hX dX25_digest_18 rfl ?_
    refine jj_callV (pc := 19) hX (w_count X.1 σ hv _) dX25_digest_19 (lw_V q1800 q1792 q1793 q78 q1794) rfl ⟨by decide +kernel, by decide +kernel, by show _ = some (1 : Nat); decide +kernel⟩ ⟨Nat.le_of_ble_eq_true rfl, Nat.le_of_ble_eq_true rfl, Nat.le_of_ble_eq_true rfl, Nat.le_of_ble_eq_true rfl, Nat.le_of_ble_eq_true rfl⟩ (fun q => by cases q) rfl jc_25 rfl (jj_keq ?_) jj_kno
    refine jj_i2l (pc := 22) hX dX25_digest_22 ?_
    refine jj_ladd (pc := 23) hX dX25_digest_23 ?_
    refine jj_lstore_n (pc := 24) hX dX25_digest_24 (by decide) ?_
    refine jj_iinc (pc := 25) hX (v := nI (w + 1)) dX25_digest_25 rfl (ix_inc rfl) (by decide) ?_
    refine jj_goto (pc := 28) hX 6 dX25_digest_28 rfl ?_
    refine jj_ls [(0, jR (some 0)), (1, jL ((31 * h) + ((m_countV σ (nI w))).toInt64)), (3, jI (nI (w + 1)))] ⟨rfl, rfl, rfl, trivial⟩ ?_
    exact ih (w + 1) _ _ (hv.ct (nI w)) (by omega) he K

theorem w_digest (G : jj_G) (σ : jm) (hv : m_inv σ) : jm_M G yX25_digest cX25_digest 5 (some .long) 3 68 [] σ (m_digS σ) (some (jL (m_digV σ))) := by
  refine jj_intro "BranchCellsModel" (by decide) rfl (Nat.le_of_ble_eq_true rfl) ?_
  intro X hG hX hr hN hC hF
  subst hG
  refine jj_ldc2 (pc := 0) hX (v := 13) q1799 dX25_digest_0 ?_
  refine jj_lstore_n (pc := 3) hX dX25_digest_3 (by decide) ?_
  refine jj_iconst (pc := 4) hX (v := 0) dX25_digest_4 (by decide) ?_
  refine jj_istore_n (pc := 5) hX dX25_digest_5 (by decide) ?_
  refine jj_ls [(0, jR (some 0)), (1, jL 13), (3, jI (nI 0))] ⟨rfl, rfl, rfl, trivial⟩ ?_
  refine w_dig_0 hX (m_d0 10 0 13 σ).1 (m_d0 10 0 13 σ).2 10 0 13 σ hv rfl rfl ?_
  refine jj_iconst (pc := 31) hX (v := 0) dX25_digest_31 (by decide) ?_
  refine jj_istore_n (pc := 32) hX dX25_digest_32 (by decide) ?_
  have hv9 : m_inv (m_digS σ) := m_inv.d0 10 0 13 σ hv
  refine jj_ls [(0, jR (some 0)), (1, jL (m_d0 10 0 13 σ).1), (3, jI (nI 0))] ⟨rfl, rfl, rfl, trivial⟩ ?_
  refine w_dig_1 hX (m_digS σ) hv9 16 0 _ rfl ?_
  refine jj_iconst (pc := 59) hX (v := 0) dX25_digest_59 (by decide) ?_
  refine jj_istore_n (pc := 60) hX dX25_digest_60 (by decide) ?_
  refine jj_ls [(0, jR (some 0)), (1, jL (m_d1 (m_digS σ) 16 0 (m_d0 10 0 13 σ).1)), (3, jI (nI 0))] ⟨rfl, rfl, rfl, trivial⟩ ?_
  exact w_dig_5 hX hr (m_digS σ) hv9 (nv ((m_digS σ).1 0 11)) 0 _ (Nat.zero_add _)
