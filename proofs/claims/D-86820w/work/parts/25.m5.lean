set_option maxRecDepth 100000

theorem m_tell_o {t j : Nat} {v : Int64} {σ : jm} (h : j ≠ t) : (m_tell t v σ).1 34 j = σ.1 34 j := by
  unfold m_tell
  split
  · rfl
  · rw [m_u_1, jj_un (Or.inr h), m_v_1]
theorem m_tell_k {t k j : Nat} {v : Int64} {σ : jm} (h : k ≠ 34) : (m_tell t v σ).1 k j = σ.1 k j := by
  unfold m_tell
  split
  · rfl
  · rw [m_u_1, jj_un (Or.inl h), m_v_1]
theorem m_tell_b {t : Nat} {v : Int64} {σ : jm} (h : jb (σ.1 34 t) 60) : jb ((m_tell t v σ).1 34 t) 60 := by
  unfold m_tell
  split
  · exact h
  · next h2 =>
    have h3 := jb_lt h (m := 60) rfl (by decide) (by decide) h2
    rw [m_u_1, jj_us]
    have h4 := jb_inc (n := 59) ⟨h.1, by omega⟩ (by decide)
    exact h4.1
theorem m_tls_k {t o k j : Nat} (h : k ≠ 34) : ∀ (n i : Nat) (σ : jm), (m_tls t o n i σ).1 k j = σ.1 k j := by
  intro n
  induction n with
  | zero => intro i σ; rfl
  | succ n ih => intro i σ; unfold m_tls; rw [ih, m_tell_k h]
theorem m_tls_b {t o : Nat} : ∀ (n i : Nat) (σ : jm), jb (σ.1 34 t) 60 → jb ((m_tls t o n i σ).1 34 t) 60 := by
  intro n
  induction n with
  | zero => intro i σ h; exact h
  | succ n ih => intro i σ h; unfold m_tls; exact ih _ _ (m_tell_b h)
/-- the segments from s on come to rt -/
def m_rc (σ : jm) (rt : Int32) : Nat → Int32 → Prop
  | 0, s => s = rt
  | n + 1, s => s = rt ∨ (s = nI (nv s) ∧ nv s ≤ n ∧ nv s < 169 ∧ m_rc σ rt n (σ.1 38 (nv s)))
/-- what a joining looks at, and doesn't change -/
def m_sm (σ0 σ : jm) : Prop := ∀ k j, k ≠ 39 → k ≠ 15 → k ≠ 34 → (k = 0 → j ≠ 35) → σ.1 k j = σ0.1 k j
theorem m_sm.rf (σ : jm) : m_sm σ σ := fun _ _ _ _ _ _ => rfl
theorem m_sm.tr {a b c : jm} (h1 : m_sm a b) (h2 : m_sm b c) : m_sm a c := fun k j p q r s => (h2 k j p q r s).trans (h1 k j p q r s)
def m_jh (t o : Nat) (σ : jm) : Prop := jb (σ.1 22 t) 168 ∧ m_und σ ∧ m_ch (nv (σ.1 0 36)) (σ.1 22 t) ∧ m_ch (nv (σ.1 0 36)) (σ.1 22 o) ∧ m_ch (nv (σ.1 0 36)) (σ.1 23 o) ∧ m_rc σ (σ.1 23 o) 169 (σ.1 22 o) ∧ ∀ c, c < 16 → jb (σ.1 9 c) 6 ∧ (3 ≤ nv (σ.1 9 c) → m_mg (nv (σ.1 9 c) - 3) σ)
theorem m_rc.sm {σ0 σ : jm} {rt : Int32} (h : ∀ j, σ.1 38 j = σ0.1 38 j) : ∀ (n : Nat) (s : Int32), m_rc σ0 rt n s → m_rc σ rt n s := by
  intro n
  induction n with
  | zero => intro s hs; exact hs
  | succ n ih =>
    intro s hs
    refine hs.imp id (fun q => ⟨q.1, q.2.1, q.2.2.1, ?_⟩)
    rw [h]
    exact ih _ q.2.2.2
theorem m_mg.sm {σ0 σ : jm} {o : Nat} (h1 : ∀ j, σ.1 6 j = σ0.1 6 j) (h2 : ∀ j, σ.1 7 j = σ0.1 7 j) (h : m_mg o σ0) : m_mg o σ := by
  unfold m_mg m_right at *
  simp only [h1, h2]
  exact h
theorem m_jh.sm {t o : Nat} {σ0 σ : jm} (h : m_sm σ0 σ) (hj : m_jh t o σ0) : m_jh t o σ := by
  have e : ∀ k j, k = 22 ∨ k = 23 ∨ k = 38 ∨ k = 9 ∨ k = 6 ∨ k = 7 → σ.1 k j = σ0.1 k j := by
    intro k j hk
    exact h k j (by omega) (by omega) (by omega) (by omega)
  have es : σ.1 0 36 = σ0.1 0 36 := h _ _ (by decide) (by decide) (by decide) (by decide)
  obtain ⟨a1, a2, a3, a4, a5, a6, a7⟩ := hj
  refine ⟨?_, ⟨?_, ?_⟩, ?_, ?_, ?_, ?_, ?_⟩
  · rw [e _ _ (by decide)]; exact a1
  · rw [es]; exact a2.1
  · intro k hk
    rw [es] at hk
    rw [e _ _ (by decide)]
    exact a2.2 k hk
  · rw [es, e _ _ (by decide)]; exact a3
  · rw [es, e _ _ (by decide)]; exact a4
  · rw [es, e _ _ (by decide)]; exact a5
  · rw [e _ _ (by decide), e _ _ (by decide)]; exact m_rc.sm (fun j => e _ j (by decide)) _ _ a6
  · intro c hc
    rw [e _ _ (by decide)]
    exact ⟨(a7 c hc).1, fun q => m_mg.sm (fun j => e _ j (by decide)) (fun j => e _ j (by decide)) ((a7 c hc).2 q)⟩
theorem m_mof_1 {j : Nat} {b u t : Int64} {σ : jm} : (m_mof j b u t σ).2.1 = σ.1 := by
  unfold m_mof
  split <;> rfl
theorem m_jc_sm {t o c : Nat} {σ : jm} : m_sm σ (m_jc t o c σ) := by
  intro k j h1 h2 h3 h4
  unfold m_jc
  split
  · rfl
  · unfold m_mc m_write
    rw [m_u_1, jj_un (by by_cases h : k = 0; exact Or.inr (h4 h); exact Or.inl h), m_v_1, m_u_1, jj_un (Or.inl h1)]
    unfold m_jq
    rw [m_mof_1]
theorem m_jl_sm {t o : Nat} : ∀ (n c : Nat) (σ : jm), m_sm σ (m_jl t o n c σ) := by
  intro n
  induction n with
  | zero => intro c σ; exact m_sm.rf σ
  | succ n ih => intro c σ; exact m_jc_sm.tr (ih _ _)
theorem m_wro_f {c : Nat} {rt : Int32} {σ : jm} : ∀ (n m : Nat) (s w : Int32), m_rc σ rt n s → m_wro c rt σ (n + 1 + m) s w = m_wro c rt σ (n + 1) s w := by
  intro n
  induction n with
  | zero =>
    intro m s w hs
    have hs : s = rt := hs
    rw [show 0 + 1 + m = m + 1 by omega]
    unfold m_wro
    rw [if_pos hs, if_pos hs]
  | succ n ih =>
    intro m s w hs
    rw [show n + 1 + 1 + m = (n + 1 + m) + 1 by omega]
    unfold m_wro
    by_cases h : s = rt
    · rw [if_pos h, if_pos h]
    · rw [if_neg h, if_neg h]
      exact ih m _ _ (hs.resolve_left h).2.2.2
theorem m_j1_sm {t o : Nat} {σ : jm} : m_sm σ (m_j1 t o σ) := by
  intro k j h1 h2 h3 h4
  unfold m_j1
  rw [m_tls_k h3, m_v_1, m_u_1, jj_un (Or.inl h2)]

theorem w_joins_t {X : jj_X} (hX : jj_ok X cX25_joins "BranchCellsModel" 12 3 81 0 0) {Q : State → Prop} (t o N : Nat) (f : Int32) (ht : t < 85) (ho : o < 85) (hto : o ≠ t) (hN : N ≤ 60) (σe : jm) : ∀ (n k : Nat) (σ : jm), k + n = N → σ.1 34 o = nI N → jb (σ.1 34 t) 60 → m_tls t o n k σ = σe → jj_J X Q 0 0 83 [(0, jR (some 0)), (1, jI (nI t)), (2, jI (nI o)), (3, jI f)] [] jm_T σe.1 σe.2 jm_R → jj_J X Q 0 0 49 [(0, jR (some 0)), (1, jI (nI t)), (2, jI (nI o)), (3, jI f), (4, jI (nI k))] [] jm_T σ.1 σ.2 jm_R := by
  intro n
  induction n with
  | zero =>
    intro k σ hk hoo hot he K
    have hge : σ.1 34 o ≤ nI k := by rw [hoo]; exact nI_le (by omega) (by omega)
    unfold m_tls at he
    subst he
    refine jj_iload (pc := 49) hX dX25_joins_49 rfl ?_
    refine jj_aload_n (pc := 51) hX dX25_joins_51 rfl ?_
    refine jj_getR (pc := 52) hX (x := some 34) fl_X25_99_25 dX25_joins_52 rfl rfl rfl ?_
    refine jj_iload_n (pc := 55) hX dX25_joins_55 rfl ?_
    refine jj_iald (pc := 56) hX o dX25_joins_56 rfl rfl rfl ⟨by omega, by omega⟩ ?_
    refine jj_icmp_ge (pc := 57) hX 83 dX25_joins_57 rfl (fun _ => ?_) (fun q => absurd hge q)
    refine jj_ls [(0, jR (some 0)), (1, jI (nI t)), (2, jI (nI o)), (3, jI f)] ⟨rfl, rfl, rfl, rfl, trivial⟩ ?_
    exact K
  | succ n ih =>
    intro k σ hk hoo hot he K
    have hlt : ¬ σ.1 34 o ≤ nI k := by rw [hoo]; exact nI_ge (by omega) (by omega)
    unfold m_tls at he
    refine jj_iload (pc := 49) hX dX25_joins_49 rfl ?_
    refine jj_aload_n (pc := 51) hX dX25_joins_51 rfl ?_
    refine jj_getR (pc := 52) hX (x := some 34) fl_X25_99_25 dX25_joins_52 rfl rfl rfl ?_
    refine jj_iload_n (pc := 55) hX dX25_joins_55 rfl ?_
    refine jj_iald (pc := 56) hX o dX25_joins_56 rfl rfl rfl ⟨by omega, by omega⟩ ?_
    refine jj_icmp_ge (pc := 57) hX 83 dX25_joins_57 rfl (fun q => absurd q hlt) (fun _ => ?_)
    refine jj_aload_n (pc := 60) hX dX25_joins_60 rfl ?_
    refine jj_iload_n (pc := 61) hX dX25_joins_61 rfl ?_
    refine jj_aload_n (pc := 62) hX dX25_joins_62 rfl ?_
    refine jj_getR (pc := 63) hX (x := some 33) fl_X25_96_25 dX25_joins_63 rfl rfl rfl ?_
    refine jj_bipush (pc := 66) hX (v := 60) dX25_joins_66 (by decide) ?_
    refine jj_iload_n (pc := 68) hX dX25_joins_68 rfl ?_
    refine jj_imul (pc := 69) hX dX25_joins_69 ?_
    refine jj_iload (pc := 70) hX dX25_joins_70 rfl ?_
    refine jj_iadd (pc := 72) hX dX25_joins_72 ?_
    refine jj_lald (pc := 73) hX ((60 * o) + k) dX25_joins_73 rfl rfl (ix_add (ix_mul rfl rfl) rfl) ⟨by omega, by omega⟩ ?_
    refine jj_callV (pc := 74) hX (w_tellOut X.1 σ t _ ht hot) dX25_joins_74 (lw_V q1713 q1715 qs42 q78 q1716) rfl ⟨by decide +kernel, by decide +kernel, by show _ = some (2 : Nat); decide +kernel⟩ ⟨Nat.le_of_ble_eq_true rfl, Nat.le_of_ble_eq_true rfl, Nat.le_of_ble_eq_true rfl, Nat.le_of_ble_eq_true rfl, Nat.le_of_ble_eq_true rfl⟩ (fun q => by cases q) rfl jc_25 rfl (jj_keq ?_) jj_kno
    refine jj_iinc (pc := 77) hX (v := nI (k + 1)) dX25_joins_77 rfl (ix_inc rfl) (by decide) ?_
    refine jj_goto (pc := 80) hX 49 dX25_joins_80 rfl ?_
    refine jj_ls [(0, jR (some 0)), (1, jI (nI t)), (2, jI (nI o)), (3, jI f), (4, jI (nI (k + 1)))] ⟨rfl, rfl, rfl, rfl, rfl, trivial⟩ ?_
    exact ih (k + 1) _ (by omega) (by rw [m_tell_o hto]; exact hoo) (m_tell_b hot) he K

theorem w_joins_s {X : jj_X} (hX : jj_ok X cX25_joins "BranchCellsModel" 12 3 81 0 0) {Q : State → Prop} (σ : jm) (t o c : Nat) (f : Int32) (ht : t < 85) (ho : o < 85) (hc : c < 16) : ∀ (n : Nat) (s w : Int32), m_rc σ (σ.1 23 o) n s → (∀ s9 : Int32, jj_J X Q 0 0 171 [(0, jR (some 0)), (1, jI (nI t)), (2, jI (nI o)), (3, jI f), (4, jI (nI c)), (5, jI (m_wro c (σ.1 23 o) σ (n + 1) s w)), (6, jI s9)] [] jm_T σ.1 σ.2 jm_R) → jj_J X Q 0 0 120 [(0, jR (some 0)), (1, jI (nI t)), (2, jI (nI o)), (3, jI f), (4, jI (nI c)), (5, jI w), (6, jI s)] [] jm_T σ.1 σ.2 jm_R := by
  intro n
  induction n with
  | zero =>
    intro s w hs K
    have hs : s = σ.1 23 o := hs
    unfold m_wro at K
    rw [if_pos hs] at K
    refine jj_iload (pc := 120) hX dX25_joins_120 rfl ?_
    refine jj_aload_n (pc := 122) hX dX25_joins_122 rfl ?_
    refine jj_getR (pc := 123) hX (x := some 23) fl_X25_65_25 dX25_joins_123 rfl rfl rfl ?_
    refine jj_iload_n (pc := 126) hX dX25_joins_126 rfl ?_
    refine jj_iald (pc := 127) hX o dX25_joins_127 rfl rfl rfl ⟨by omega, by omega⟩ ?_
    refine jj_icmp_eq (pc := 128) hX 171 dX25_joins_128 rfl (fun _ => ?_) (fun q => absurd hs q)
    refine jj_ls [(0, jR (some 0)), (1, jI (nI t)), (2, jI (nI o)), (3, jI f), (4, jI (nI c)), (5, jI w), (6, jI s)] ⟨rfl, rfl, rfl, rfl, rfl, rfl, rfl, trivial⟩ ?_
    exact K s
  | succ n ih =>
    intro s w hs K
    unfold m_wro at K
    by_cases h9 : s = σ.1 23 o
    · rw [if_pos h9] at K
      refine jj_iload (pc := 120) hX dX25_joins_120 rfl ?_
      refine jj_aload_n (pc := 122) hX dX25_joins_122 rfl ?_
      refine jj_getR (pc := 123) hX (x := some 23) fl_X25_65_25 dX25_joins_123 rfl rfl rfl ?_
      refine jj_iload_n (pc := 126) hX dX25_joins_126 rfl ?_
      refine jj_iald (pc := 127) hX o dX25_joins_127 rfl rfl rfl ⟨by omega, by omega⟩ ?_
      refine jj_icmp_eq (pc := 128) hX 171 dX25_joins_128 rfl (fun _ => ?_) (fun q => absurd h9 q)
      refine jj_ls [(0, jR (some 0)), (1, jI (nI t)), (2, jI (nI o)), (3, jI f), (4, jI (nI c)), (5, jI w), (6, jI s)] ⟨rfl, rfl, rfl, rfl, rfl, rfl, rfl, trivial⟩ ?_
      exact K s
    · rw [if_neg h9] at K
      obtain ⟨hs1, hs2, hs3, hs4⟩ := hs.resolve_left h9
      refine jj_iload (pc := 120) hX dX25_joins_120 rfl ?_
      refine jj_aload_n (pc := 122) hX dX25_joins_122 rfl ?_
      refine jj_getR (pc := 123) hX (x := some 23) fl_X25_65_25 dX25_joins_123 rfl rfl rfl ?_
      refine jj_iload_n (pc := 126) hX dX25_joins_126 rfl ?_
      refine jj_iald (pc := 127) hX o dX25_joins_127 rfl rfl rfl ⟨by omega, by omega⟩ ?_
      refine jj_icmp_eq (pc := 128) hX 171 dX25_joins_128 rfl (fun q => absurd q h9) (fun _ => ?_)
      refine jj_iload (pc := 131) hX dX25_joins_131 rfl ?_
      refine jj_if_ne (pc := 133) hX 152 dX25_joins_133 rfl (fun h133 => ?_) (fun h133 => ?_)
      · refine jj_iconst (pc := 152) hX (v := 1) dX25_joins_152 (by decide) ?_
        refine jj_goto (pc := 153) hX 157 dX25_joins_153 rfl ?_
        refine jj_istore (pc := 157) hX dX25_joins_157 (by decide) ?_
        refine jj_aload_n (pc := 159) hX dX25_joins_159 rfl ?_
        refine jj_getR (pc := 160) hX (x := some 38) fl_X25_102_25 dX25_joins_160 rfl rfl rfl ?_
        refine jj_iload (pc := 163) hX dX25_joins_163 rfl ?_
        refine jj_iald (pc := 165) hX (nv s) dX25_joins_165 rfl rfl hs1 ⟨by omega, by omega⟩ ?_
        refine jj_istore (pc := 166) hX dX25_joins_166 (by decide) ?_
        refine jj_goto (pc := 168) hX 120 dX25_joins_168 rfl ?_
        rw [if_neg h133] at K
        refine jj_ls [(0, jR (some 0)), (1, jI (nI t)), (2, jI (nI o)), (3, jI f), (4, jI (nI c)), (5, jI 1), (6, jI (σ.1 38 (nv s)))] ⟨rfl, rfl, rfl, rfl, rfl, rfl, rfl, trivial⟩ ?_
        exact ih _ 1 hs4 K
      · refine jj_aload_n (pc := 136) hX dX25_joins_136 rfl ?_
        refine jj_getR (pc := 137) hX (x := some 39) fl_X25_105_25 dX25_joins_137 rfl rfl rfl ?_
        refine jj_bipush (pc := 140) hX (v := 16) dX25_joins_140 (by decide) ?_
        refine jj_iload (pc := 142) hX dX25_joins_142 rfl ?_
        refine jj_imul (pc := 144) hX dX25_joins_144 ?_
        refine jj_iload (pc := 145) hX dX25_joins_145 rfl ?_
        refine jj_iadd (pc := 147) hX dX25_joins_147 ?_
        refine jj_zald (pc := 148) hX ((16 * nv s) + c) dX25_joins_148 rfl rfl (ix_add (ix_mul rfl hs1) rfl) ⟨by omega, by omega⟩ ?_
        refine jj_if_eq (pc := 149) hX 156 dX25_joins_149 rfl (fun h149 => ?_) (fun h149 => ?_)
        · refine jj_iconst (pc := 156) hX (v := 0) dX25_joins_156 (by decide) ?_
          refine jj_istore (pc := 157) hX dX25_joins_157 (by decide) ?_
          refine jj_aload_n (pc := 159) hX dX25_joins_159 rfl ?_
          refine jj_getR (pc := 160) hX (x := some 38) fl_X25_102_25 dX25_joins_160 rfl rfl rfl ?_
          refine jj_iload (pc := 163) hX dX25_joins_163 rfl ?_
          refine jj_iald (pc := 165) hX (nv s) dX25_joins_165 rfl rfl hs1 ⟨by omega, by omega⟩ ?_
          refine jj_istore (pc := 166) hX dX25_joins_166 (by decide) ?_
          refine jj_goto (pc := 168) hX 120 dX25_joins_168 rfl ?_
          rw [if_pos h133, if_pos h149] at K
          refine jj_ls [(0, jR (some 0)), (1, jI (nI t)), (2, jI (nI o)), (3, jI f), (4, jI (nI c)), (5, jI 0), (6, jI (σ.1 38 (nv s)))] ⟨rfl, rfl, rfl, rfl, rfl, rfl, rfl, trivial⟩ ?_
          exact ih _ 0 hs4 K
        · refine jj_iconst (pc := 152) hX (v := 1) dX25_joins_152 (by decide) ?_
          refine jj_goto (pc := 153) hX 157 dX25_joins_153 rfl ?_
          refine jj_istore (pc := 157) hX dX25_joins_157 (by decide) ?_
          refine jj_aload_n (pc := 159) hX dX25_joins_159 rfl ?_
          refine jj_getR (pc := 160) hX (x := some 38) fl_X25_102_25 dX25_joins_160 rfl rfl rfl ?_
          refine jj_iload (pc := 163) hX dX25_joins_163 rfl ?_
          refine jj_iald (pc := 165) hX (nv s) dX25_joins_165 rfl rfl hs1 ⟨by omega, by omega⟩ ?_
          refine jj_istore (pc := 166) hX dX25_joins_166 (by decide) ?_
          refine jj_goto (pc := 168) hX 120 dX25_joins_168 rfl ?_
          rw [if_pos h133, if_neg h149] at K
          refine jj_ls [(0, jR (some 0)), (1, jI (nI t)), (2, jI (nI o)), (3, jI f), (4, jI (nI c)), (5, jI 1), (6, jI (σ.1 38 (nv s)))] ⟨rfl, rfl, rfl, rfl, rfl, rfl, rfl, trivial⟩ ?_
          exact ih _ 1 hs4 K

theorem w_joins_c {X : jj_X} (hX : jj_ok X cX25_joins "BranchCellsModel" 12 3 81 0 0) {Q : State → Prop} (σ0 : jm) (t o : Nat) (f : Int32) (ht : t < 85) (ho : o < 85) (hj : m_jh t o σ0) (σe : jm) : ∀ (n c : Nat) (σ : jm), c + n = 16 → m_sm σ0 σ → m_jl t o n c σ = σe → jj_J X Q 0 0 258 [(0, jR (some 0)), (1, jI (nI t)), (2, jI (nI o)), (3, jI f)] [] jm_T σe.1 σe.2 jm_R → jj_J X Q 0 0 102 [(0, jR (some 0)), (1, jI (nI t)), (2, jI (nI o)), (3, jI f), (4, jI (nI c))] [] jm_T σ.1 σ.2 jm_R := by
  intro n
  induction n with
  | zero =>
    intro c σ hc hsm he K
    obtain rfl : c = 16 := by omega
    unfold m_jl at he
    subst he
    refine jj_iload (pc := 102) hX dX25_joins_102 rfl ?_
    refine jj_bipush (pc := 104) hX (v := 16) dX25_joins_104 (by decide) ?_
    refine jj_icmp_ge (pc := 106) hX 258 dX25_joins_106 rfl (fun _ => ?_) (fun q => absurd (nI_le (Nat.le_refl 16) (by decide)) q)
    refine jj_ls [(0, jR (some 0)), (1, jI (nI t)), (2, jI (nI o)), (3, jI f)] ⟨rfl, rfl, rfl, rfl, trivial⟩ ?_
    exact K
  | succ n ih =>
    intro c σ hc hsm he K
    have hlt : ¬ (16 : Int32) ≤ nI c := by rw [show (16 : Int32) = nI 16 from rfl]; exact nI_ge (by omega) (by decide)
    unfold m_jl at he
    obtain ⟨a1, a2, a3, a4, a5, a6, a7⟩ := hj.sm hsm
    obtain ⟨b1, b2⟩ := a7 c (by omega)
    have hwr : m_wro c (σ.1 23 o) σ 170 (σ.1 22 o) 0 = m_wro c (σ.1 23 o) σ (169 + 1) (σ.1 22 o) 0 := rfl
    refine jj_iload (pc := 102) hX dX25_joins_102 rfl ?_
    refine jj_bipush (pc := 104) hX (v := 16) dX25_joins_104 (by decide) ?_
    refine jj_icmp_ge (pc := 106) hX 258 dX25_joins_106 rfl (fun q => absurd q hlt) (fun _ => ?_)
    refine jj_iconst (pc := 109) hX (v := 0) dX25_joins_109 (by decide) ?_
    refine jj_istore (pc := 110) hX dX25_joins_110 (by decide) ?_
    refine jj_aload_n (pc := 112) hX dX25_joins_112 rfl ?_
    refine jj_getR (pc := 113) hX (x := some 22) fl_X25_62_25 dX25_joins_113 rfl rfl rfl ?_
    refine jj_iload_n (pc := 116) hX dX25_joins_116 rfl ?_
    refine jj_iald (pc := 117) hX o dX25_joins_117 rfl rfl rfl ⟨by omega, by omega⟩ ?_
    refine jj_istore (pc := 118) hX dX25_joins_118 (by decide) ?_
    refine jj_ls [(0, jR (some 0)), (1, jI (nI t)), (2, jI (nI o)), (3, jI f), (4, jI (nI c)), (5, jI 0), (6, jI (σ.1 22 o))] ⟨rfl, rfl, rfl, rfl, rfl, rfl, rfl, trivial⟩ ?_
    refine w_joins_s hX σ t o c f ht ho (by omega) 169 (σ.1 22 o) 0 a6 (fun s9 => ?_)
    refine jj_iload (pc := 171) hX dX25_joins_171 rfl ?_
    refine jj_if_eq (pc := 173) hX 252 dX25_joins_173 rfl (fun h173 => ?_) (fun h173 => ?_)
    · refine jj_iinc (pc := 252) hX (v := nI (c + 1)) dX25_joins_252 rfl (ix_inc rfl) (by decide) ?_
      refine jj_goto (pc := 255) hX 102 dX25_joins_255 rfl ?_
      have e9 : m_jc t o c σ = σ := by unfold m_jc; rw [if_pos h173]
      rw [e9] at he
      refine jj_ls [(0, jR (some 0)), (1, jI (nI t)), (2, jI (nI o)), (3, jI f), (4, jI (nI (c + 1)))] ⟨rfl, rfl, rfl, rfl, rfl, trivial⟩ ?_
      exact ih (c + 1) σ (by omega) hsm he K
    · refine jj_aload_n (pc := 176) hX dX25_joins_176 rfl ?_
      refine jj_aload_n (pc := 177) hX dX25_joins_177 rfl ?_
      refine jj_getR (pc := 178) hX (x := some 23) fl_X25_65_25 dX25_joins_178 rfl rfl rfl ?_
      refine jj_iload_n (pc := 181) hX dX25_joins_181 rfl ?_
      refine jj_iald (pc := 182) hX o dX25_joins_182 rfl rfl rfl ⟨by omega, by omega⟩ ?_
      refine jj_iload (pc := 183) hX dX25_joins_183 rfl ?_
      refine jj_callV (pc := 185) hX (w_readFrom X.1 σ _ c (by omega) a2 a5) dX25_joins_185 (lw_V q1697 q1699 qs38 q78 q1700) rfl ⟨by decide +kernel, by decide +kernel, by show _ = some (2 : Nat); decide +kernel⟩ ⟨Nat.le_of_ble_eq_true rfl, Nat.le_of_ble_eq_true rfl, Nat.le_of_ble_eq_true rfl, Nat.le_of_ble_eq_true rfl, Nat.le_of_ble_eq_true rfl⟩ (fun q => by cases q) rfl jc_25 rfl (jj_keq ?_) jj_kno
      refine jj_lstore (pc := 188) hX dX25_joins_188 (by decide) ?_
      refine jj_aload_n (pc := 190) hX dX25_joins_190 rfl ?_
      refine jj_aload_n (pc := 191) hX dX25_joins_191 rfl ?_
      refine jj_getR (pc := 192) hX (x := some 22) fl_X25_62_25 dX25_joins_192 rfl rfl rfl ?_
      refine jj_iload_n (pc := 195) hX dX25_joins_195 rfl ?_
      refine jj_iald (pc := 196) hX o dX25_joins_196 rfl rfl rfl ⟨by omega, by omega⟩ ?_
      refine jj_iload (pc := 197) hX dX25_joins_197 rfl ?_
      refine jj_callV (pc := 199) hX (w_readFrom X.1 σ _ c (by omega) a2 a4) dX25_joins_199 (lw_V q1697 q1699 qs38 q78 q1700) rfl ⟨by decide +kernel, by decide +kernel, by show _ = some (2 : Nat); decide +kernel⟩ ⟨Nat.le_of_ble_eq_true rfl, Nat.le_of_ble_eq_true rfl, Nat.le_of_ble_eq_true rfl, Nat.le_of_ble_eq_true rfl, Nat.le_of_ble_eq_true rfl⟩ (fun q => by cases q) rfl jc_25 rfl (jj_keq ?_) jj_kno
      refine jj_lstore (pc := 202) hX dX25_joins_202 (by decide) ?_
      refine jj_aload_n (pc := 204) hX dX25_joins_204 rfl ?_
      refine jj_aload_n (pc := 205) hX dX25_joins_205 rfl ?_
      refine jj_getR (pc := 206) hX (x := some 22) fl_X25_62_25 dX25_joins_206 rfl rfl rfl ?_
      refine jj_iload_n (pc := 209) hX dX25_joins_209 rfl ?_
      refine jj_iald (pc := 210) hX t dX25_joins_210 rfl rfl rfl ⟨by omega, by omega⟩ ?_
      refine jj_iload (pc := 211) hX dX25_joins_211 rfl ?_
      refine jj_callV (pc := 213) hX (w_readFrom X.1 σ _ c (by omega) a2 a3) dX25_joins_213 (lw_V q1697 q1699 qs38 q78 q1700) rfl ⟨by decide +kernel, by decide +kernel, by show _ = some (2 : Nat); decide +kernel⟩ ⟨Nat.le_of_ble_eq_true rfl, Nat.le_of_ble_eq_true rfl, Nat.le_of_ble_eq_true rfl, Nat.le_of_ble_eq_true rfl, Nat.le_of_ble_eq_true rfl⟩ (fun q => by cases q) rfl jc_25 rfl (jj_keq ?_) jj_kno
      refine jj_lstore (pc := 216) hX dX25_joins_216 (by decide) ?_
      refine jj_aload_n (pc := 218) hX dX25_joins_218 rfl ?_
      refine jj_iload_n (pc := 219) hX dX25_joins_219 rfl ?_
      refine jj_iload (pc := 220) hX dX25_joins_220 rfl ?_
      refine jj_aload_n (pc := 222) hX dX25_joins_222 rfl ?_
      refine jj_aload_n (pc := 223) hX dX25_joins_223 rfl ?_
      refine jj_getR (pc := 224) hX (x := some 9) fl_X25_28_25 dX25_joins_224 rfl rfl rfl ?_
      refine jj_iload (pc := 227) hX dX25_joins_227 rfl ?_
      refine jj_iald (pc := 229) hX c dX25_joins_229 rfl rfl rfl ⟨by omega, by omega⟩ ?_
      refine jj_top (nI (nv (σ.1 9 c))) b1.1 ?_
      refine jj_lload (pc := 230) hX dX25_joins_230 rfl ?_
      refine jj_lload (pc := 232) hX dX25_joins_232 rfl ?_
      refine jj_lload (pc := 234) hX dX25_joins_234 rfl ?_
      refine jj_callV (pc := 236) hX (w_mergedOf X.1 σ (nv (σ.1 9 c)) _ _ _ b1.2 b2) dX25_joins_236 (lw_V q1717 q1719 qs43 q78 q1720) rfl ⟨by decide +kernel, by decide +kernel, by show _ = some (4 : Nat); decide +kernel⟩ ⟨Nat.le_of_ble_eq_true rfl, Nat.le_of_ble_eq_true rfl, Nat.le_of_ble_eq_true rfl, Nat.le_of_ble_eq_true rfl, Nat.le_of_ble_eq_true rfl⟩ (fun q => by cases q) rfl jc_25 rfl (jj_keq ?_) jj_kno
      refine jj_callV (pc := 239) hX (w_write X.1 (m_jq t o c σ).2 t c (m_jq t o c σ).1 ht (by omega) (by unfold m_jq; rw [m_mof_1]; exact a1)) dX25_joins_239 (lw_V q1701 q1703 qs39 q78 q1704) rfl ⟨by decide +kernel, by decide +kernel, by show _ = some (3 : Nat); decide +kernel⟩ ⟨Nat.le_of_ble_eq_true rfl, Nat.le_of_ble_eq_true rfl, Nat.le_of_ble_eq_true rfl, Nat.le_of_ble_eq_true rfl, Nat.le_of_ble_eq_true rfl⟩ (fun q => by cases q) rfl jc_25 rfl (jj_keq ?_) jj_kno
      refine jj_aload_n (pc := 242) hX dX25_joins_242 rfl ?_
      refine jj_dup (pc := 243) hX dX25_joins_243 rfl ?_
      refine jj_getI (pc := 244) hX fl_X25_176_25 dX25_joins_244 rfl rfl ?_
      refine jj_iconst (pc := 247) hX (v := 1) dX25_joins_247 (by decide) ?_
      refine jj_iadd (pc := 248) hX dX25_joins_248 ?_
      refine jj_putI (pc := 249) hX fl_X25_176_25 dX25_joins_249 rfl rfl rfl ?_
      refine jj_iinc (pc := 252) hX (v := nI (c + 1)) dX25_joins_252 rfl (ix_inc rfl) (by decide) ?_
      refine jj_goto (pc := 255) hX 102 dX25_joins_255 rfl ?_
      have e9 : m_jc t o c σ = m_mc (m_write t c (m_jq t o c σ).1 (m_jq t o c σ).2) := by unfold m_jc; rw [if_neg h173]
      refine jj_mem (m_jc t o c σ) (by rw [e9]; rfl) (by rw [e9]; rfl) ?_
      refine jj_ls [(0, jR (some 0)), (1, jI (nI t)), (2, jI (nI o)), (3, jI f), (4, jI (nI (c + 1)))] ⟨rfl, rfl, rfl, rfl, rfl, trivial⟩ ?_
      exact ih (c + 1) _ (by omega) (hsm.tr m_jc_sm) he K

theorem w_joins (G : jj_G) (σ : jm) (t o : Nat) (ht : t < 85) (ho : o < 85) (hto : o ≠ t) (hot : jb (σ.1 34 t) 60) (hoo : jb (σ.1 34 o) 60) (hpl : jb (σ.1 32 t) 11) (hrh : j01 (σ.1 27 o)) (hj : m_jh t o σ) : jm_M G yX25_joins cX25_joins 12 none 3 81 [jI (nI t), jI (nI o)] σ (m_join t o σ) none := by
  refine jj_intro "BranchCellsModel" (by decide) rfl (Nat.le_of_ble_eq_true rfl) ?_
  intro X hG hX hr hN hC hF
  subst hG
  refine jj_aload_n (pc := 0) hX dX25_joins_0 rfl ?_
  refine jj_getR (pc := 1) hX (x := some 15) fl_X25_41_25 dX25_joins_1 rfl rfl rfl ?_
  refine jj_iload_n (pc := 4) hX dX25_joins_4 rfl ?_
  refine jj_iald (pc := 5) hX o dX25_joins_5 rfl rfl rfl ⟨by omega, by omega⟩ ?_
  refine jj_iconst (pc := 6) hX (v := 3) dX25_joins_6 (by decide) ?_
  refine jj_icmp_ne (pc := 7) hX 14 dX25_joins_7 rfl (fun h7 => ?_) (fun h7 => ?_)
  · refine jj_iconst (pc := 14) hX (v := 0) dX25_joins_14 (by decide) ?_
    refine jj_istore_n (pc := 15) hX dX25_joins_15 (by decide) ?_
    refine jj_aload_n (pc := 16) hX dX25_joins_16 rfl ?_
    refine jj_getR (pc := 17) hX (x := some 15) fl_X25_41_25 dX25_joins_17 rfl rfl rfl ?_
    refine jj_iload_n (pc := 20) hX dX25_joins_20 rfl ?_
    refine jj_iconst (pc := 21) hX (v := 4) dX25_joins_21 (by decide) ?_
    refine jj_iast (pc := 22) hX o dX25_joins_22 rfl rfl ⟨by omega, by omega⟩ ?_
    refine jj_aload_n (pc := 23) hX dX25_joins_23 rfl ?_
    refine jj_getR (pc := 24) hX (x := some 24) fl_X25_68_25 dX25_joins_24 rfl rfl rfl ?_
    refine jj_iload_n (pc := 27) hX dX25_joins_27 rfl ?_
    refine jj_ldc2 (pc := 28) hX (v := 31) q1676 dX25_joins_28 ?_
    refine jj_aload_n (pc := 31) hX dX25_joins_31 rfl ?_
    refine jj_getR (pc := 32) hX (x := some 24) fl_X25_68_25 dX25_joins_32 rfl rfl rfl ?_
    refine jj_iload_n (pc := 35) hX dX25_joins_35 rfl ?_
    refine jj_lald (pc := 36) hX t dX25_joins_36 rfl rfl rfl ⟨by omega, by omega⟩ ?_
    refine jj_lmul (pc := 37) hX dX25_joins_37 ?_
    refine jj_aload_n (pc := 38) hX dX25_joins_38 rfl ?_
    refine jj_getR (pc := 39) hX (x := some 24) fl_X25_68_25 dX25_joins_39 rfl rfl rfl ?_
    refine jj_iload_n (pc := 42) hX dX25_joins_42 rfl ?_
    refine jj_lald (pc := 43) hX o dX25_joins_43 rfl rfl rfl ⟨by omega, by omega⟩ ?_
    refine jj_ladd (pc := 44) hX dX25_joins_44 ?_
    refine jj_last (pc := 45) hX t dX25_joins_45 rfl rfl ⟨by omega, by omega⟩ ?_
    refine jj_iconst (pc := 46) hX (v := 0) dX25_joins_46 (by decide) ?_
    refine jj_istore (pc := 47) hX dX25_joins_47 (by decide) ?_
    have hoo2 := hoo.2
    refine jj_ls [(0, jR (some 0)), (1, jI (nI t)), (2, jI (nI o)), (3, jI 0), (4, jI (nI 0))] ⟨rfl, rfl, rfl, rfl, rfl, trivial⟩ ?_
    refine w_joins_t hX t o (nv (σ.1 34 o)) 0 ht ho hto hoo2 _ (nv (σ.1 34 o)) 0 (m_v (m_u σ 15 o 4) 24 t (31 * σ.2 24 t + σ.2 24 o)) (Nat.zero_add _) hoo.1 hot rfl ?_
    refine jj_mem (m_j1 t o σ) rfl rfl ?_
    refine jj_iload_n (pc := 83) hX dX25_joins_83 rfl ?_
    refine jj_if_eq (pc := 84) hX 99 dX25_joins_84 rfl (fun _ => ?_) (fun q => absurd (by decide) q)
    refine jj_iconst (pc := 99) hX (v := 0) dX25_joins_99 (by decide) ?_
    refine jj_istore (pc := 100) hX dX25_joins_100 (by decide) ?_
    refine jj_ls [(0, jR (some 0)), (1, jI (nI t)), (2, jI (nI o)), (3, jI 0), (4, jI (nI 0))] ⟨rfl, rfl, rfl, rfl, rfl, trivial⟩ ?_
    refine w_joins_c hX (m_j1 t o σ) t o 0 ht ho (hj.sm m_j1_sm) _ 16 0 (m_j1 t o σ) rfl (m_sm.rf _) rfl ?_
    refine jj_aload_n (pc := 258) hX dX25_joins_258 rfl ?_
    refine jj_iload_n (pc := 259) hX dX25_joins_259 rfl ?_
    refine jj_aload_n (pc := 260) hX dX25_joins_260 rfl ?_
    refine jj_getR (pc := 261) hX (x := some 26) fl_X25_75_25 dX25_joins_261 rfl rfl rfl ?_
    refine jj_iload_n (pc := 264) hX dX25_joins_264 rfl ?_
    refine jj_lald (pc := 265) hX o dX25_joins_265 rfl rfl rfl ⟨by omega, by omega⟩ ?_
    refine jj_aload_n (pc := 266) hX dX25_joins_266 rfl ?_
    refine jj_getR (pc := 267) hX (x := some 27) fl_X25_78_25 dX25_joins_267 rfl rfl rfl ?_
    refine jj_iload_n (pc := 270) hX dX25_joins_270 rfl ?_
    refine jj_zald (pc := 271) hX o dX25_joins_271 rfl rfl rfl ⟨by omega, by omega⟩ ?_
    have hsm9 : m_sm σ (m_jl t o 16 0 (m_j1 t o σ)) := m_j1_sm.tr (m_jl_sm _ _ _)
    refine jj_callV (pc := 272) hX (w_push X.1 (m_jl t o 16 0 (m_j1 t o σ)) t _ _ ht (by rw [hsm9 _ _ (by decide) (by decide) (by decide) (fun q => absurd q (by decide))]; exact hpl) (by rw [hsm9 _ _ (by decide) (by decide) (by decide) (fun q => absurd q (by decide))]; exact hrh)) dX25_joins_272 (lw_V q1693 q1695 qs37 q78 q1696) rfl ⟨by decide +kernel, by decide +kernel, by show _ = some (3 : Nat); decide +kernel⟩ ⟨Nat.le_of_ble_eq_true rfl, Nat.le_of_ble_eq_true rfl, Nat.le_of_ble_eq_true rfl, Nat.le_of_ble_eq_true rfl, Nat.le_of_ble_eq_true rfl⟩ (fun q => by cases q) rfl jc_25 rfl (jj_keq ?_) jj_kno
    refine jj_vret (pc := 275) hX dX25_joins_275 hr ⟨Nat.le_refl _, Nat.le_refl _⟩ ?_
    unfold m_join
    rw [if_neg h7]
    exact ⟨rfl, rfl, rfl, rfl, rfl⟩
  · refine jj_iconst (pc := 10) hX (v := 1) dX25_joins_10 (by decide) ?_
    refine jj_goto (pc := 11) hX 15 dX25_joins_11 rfl ?_
    refine jj_istore_n (pc := 15) hX dX25_joins_15 (by decide) ?_
    refine jj_aload_n (pc := 16) hX dX25_joins_16 rfl ?_
    refine jj_getR (pc := 17) hX (x := some 15) fl_X25_41_25 dX25_joins_17 rfl rfl rfl ?_
    refine jj_iload_n (pc := 20) hX dX25_joins_20 rfl ?_
    refine jj_iconst (pc := 21) hX (v := 4) dX25_joins_21 (by decide) ?_
    refine jj_iast (pc := 22) hX o dX25_joins_22 rfl rfl ⟨by omega, by omega⟩ ?_
    refine jj_aload_n (pc := 23) hX dX25_joins_23 rfl ?_
    refine jj_getR (pc := 24) hX (x := some 24) fl_X25_68_25 dX25_joins_24 rfl rfl rfl ?_
    refine jj_iload_n (pc := 27) hX dX25_joins_27 rfl ?_
    refine jj_ldc2 (pc := 28) hX (v := 31) q1676 dX25_joins_28 ?_
    refine jj_aload_n (pc := 31) hX dX25_joins_31 rfl ?_
    refine jj_getR (pc := 32) hX (x := some 24) fl_X25_68_25 dX25_joins_32 rfl rfl rfl ?_
    refine jj_iload_n (pc := 35) hX dX25_joins_35 rfl ?_
    refine jj_lald (pc := 36) hX t dX25_joins_36 rfl rfl rfl ⟨by omega, by omega⟩ ?_
    refine jj_lmul (pc := 37) hX dX25_joins_37 ?_
    refine jj_aload_n (pc := 38) hX dX25_joins_38 rfl ?_
    refine jj_getR (pc := 39) hX (x := some 24) fl_X25_68_25 dX25_joins_39 rfl rfl rfl ?_
    refine jj_iload_n (pc := 42) hX dX25_joins_42 rfl ?_
    refine jj_lald (pc := 43) hX o dX25_joins_43 rfl rfl rfl ⟨by omega, by omega⟩ ?_
    refine jj_ladd (pc := 44) hX dX25_joins_44 ?_
    refine jj_last (pc := 45) hX t dX25_joins_45 rfl rfl ⟨by omega, by omega⟩ ?_
    refine jj_iconst (pc := 46) hX (v := 0) dX25_joins_46 (by decide) ?_
    refine jj_istore (pc := 47) hX dX25_joins_47 (by decide) ?_
    have hoo2 := hoo.2
    refine jj_ls [(0, jR (some 0)), (1, jI (nI t)), (2, jI (nI o)), (3, jI 1), (4, jI (nI 0))] ⟨rfl, rfl, rfl, rfl, rfl, trivial⟩ ?_
    refine w_joins_t hX t o (nv (σ.1 34 o)) 1 ht ho hto hoo2 _ (nv (σ.1 34 o)) 0 (m_v (m_u σ 15 o 4) 24 t (31 * σ.2 24 t + σ.2 24 o)) (Nat.zero_add _) hoo.1 hot rfl ?_
    refine jj_mem (m_j1 t o σ) rfl rfl ?_
    refine jj_iload_n (pc := 83) hX dX25_joins_83 rfl ?_
    refine jj_if_eq (pc := 84) hX 99 dX25_joins_84 rfl (fun q => absurd q (by decide)) (fun _ => ?_)
    refine jj_aload_n (pc := 87) hX dX25_joins_87 rfl ?_
    refine jj_iload_n (pc := 88) hX dX25_joins_88 rfl ?_
    refine jj_aload_n (pc := 89) hX dX25_joins_89 rfl ?_
    refine jj_getR (pc := 90) hX (x := some 16) fl_X25_44_25 dX25_joins_90 rfl rfl rfl ?_
    refine jj_iload_n (pc := 93) hX dX25_joins_93 rfl ?_
    refine jj_iald (pc := 94) hX o dX25_joins_94 rfl rfl rfl ⟨by omega, by omega⟩ ?_
    refine jj_callV (pc := 95) hX (w_fails X.1 (m_j1 t o σ) t _ ht) dX25_joins_95 (lw_V q1677 q1679 qs34 q78 q1680) rfl ⟨by decide +kernel, by decide +kernel, by show _ = some (2 : Nat); decide +kernel⟩ ⟨Nat.le_of_ble_eq_true rfl, Nat.le_of_ble_eq_true rfl, Nat.le_of_ble_eq_true rfl, Nat.le_of_ble_eq_true rfl, Nat.le_of_ble_eq_true rfl⟩ (fun q => by cases q) rfl jc_25 rfl (jj_keq ?_) jj_kno
    refine jj_vret (pc := 98) hX dX25_joins_98 hr ⟨Nat.le_refl _, Nat.le_refl _⟩ ?_
    unfold m_join
    rw [if_pos h7]
    exact ⟨rfl, rfl, rfl, rfl, rfl⟩
