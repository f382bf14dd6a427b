set_option maxRecDepth 100000

/-- the same but for 'held' -/
def m_eh (σ0 σ : jm) : Prop := (∀ k j, k ≠ 41 → σ.1 k j = σ0.1 k j) ∧ σ.2 = σ0.2
theorem m_eh.rf (σ : jm) : m_eh σ σ := ⟨fun _ _ _ => rfl, rfl⟩
theorem m_eh.tr {a b c : jm} (h1 : m_eh a b) (h2 : m_eh b c) : m_eh a c := ⟨fun k j h => (h2.1 k j h).trans (h1.1 k j h), h2.2.trans h1.2⟩
theorem m_eh.w {a b : jm} (h : m_eh a b) (j : Nat) (v : Int32) : m_eh a (m_u b 41 j v) := ⟨fun k i hk => by rw [m_u_1, jj_un (Or.inl hk)]; exact h.1 k i hk, h.2⟩
def m_h0 : Nat → Nat → jm → jm
  | 0, _, σ => σ
  | n + 1, s, σ => m_h0 n (s + 1) (m_u σ 41 s 0)
def m_hs : Nat → Int32 → jm → jm
  | 0, _, σ => σ
  | n + 1, s, σ => if s = -4 then σ else m_hs n (σ.1 38 (nv s)) (m_u σ 41 (nv s) 1)
def m_h1 : Nat → Nat → jm → jm
  | 0, _, σ => σ
  | n + 1, t, σ => m_h1 n (t + 1) (m_hs 170 (if σ.1 15 t = 4 then -4 else σ.1 22 t) σ)
def m_hold (σ : jm) : jm := m_h1 (nv (σ.1 0 11)) 0 (m_h0 (nv (σ.1 0 36)) 0 σ)
theorem m_h0_e {σ0 : jm} : ∀ (n s : Nat) (σ : jm), m_eh σ0 σ → m_eh σ0 (m_h0 n s σ)
  | 0, _, _, h => h
  | n + 1, s, _, h => m_h0_e n (s + 1) _ (h.w s 0)
theorem m_hs_e {σ0 : jm} : ∀ (n : Nat) (s : Int32) (σ : jm), m_eh σ0 σ → m_eh σ0 (m_hs n s σ) := by
  intro n
  induction n with
  | zero => intro s σ h; exact h
  | succ n ih =>
    intro s σ h
    unfold m_hs
    split
    · exact h
    · exact ih _ _ (h.w _ 1)
theorem m_h1_e {σ0 : jm} : ∀ (n t : Nat) (σ : jm), m_eh σ0 σ → m_eh σ0 (m_h1 n t σ)
  | 0, _, _, h => h
  | n + 1, t, _, h => m_h1_e n (t + 1) _ (m_hs_e 170 _ _ h)
theorem m_hold_e (σ : jm) : m_eh σ (m_hold σ) := m_h1_e _ _ _ (m_h0_e _ _ _ (m_eh.rf σ))
/-- a chain's marking ends by itself -/
theorem m_hs_f {σ0 : jm} (hu : m_und σ0) : ∀ (n m : Nat) (s : Int32) (σ : jm), n ≤ nv (σ0.1 0 36) → m_ch n s → m_eh σ0 σ → m_hs (n + 1 + m) s σ = m_hs (n + 1) s σ := by
  intro n
  induction n using Nat.strongRecOn with
  | ind n ih =>
    intro m s σ hn hs he
    rw [show n + 1 + m = n + m + 1 by omega]
    unfold m_hs
    by_cases h : s = -4
    · rw [if_pos h, if_pos h]
    · rw [if_neg h, if_neg h]
      obtain ⟨h1, h2⟩ := hs.resolve_left h
      have h3 := hu.2 (nv s) (by omega)
      have e : σ.1 38 (nv s) = σ0.1 38 (nv s) := he.1 _ _ (by decide)
      rw [e]
      have q1 := ih (nv s) h2 (n - nv s - 1 + m) (σ0.1 38 (nv s)) _ (by omega) h3 (he.w (nv s) 1)
      have q2 := ih (nv s) h2 (n - nv s - 1) (σ0.1 38 (nv s)) _ (by omega) h3 (he.w (nv s) 1)
      rw [show nv s + 1 + (n - nv s - 1 + m) = n + m by omega] at q1
      rw [show nv s + 1 + (n - nv s - 1) = n by omega] at q2
      rw [q1, q2]
theorem m_hs_170 {σ0 σ : jm} (hu : m_und σ0) (he : m_eh σ0 σ) {n : Nat} {s : Int32} (hn : n ≤ nv (σ0.1 0 36)) (hs : m_ch n s) : m_hs 170 s σ = m_hs (n + 1) s σ := by
  have h169 := hu.1
  have := m_hs_f hu n (169 - n) s σ hn hs he
  rw [show n + 1 + (169 - n) = 170 by omega] at this
  exact this

theorem w_hold_0 {X : jj_X} (hX : jj_ok X cX25_hold "BranchCellsModel" 3 0 0 0 0) {Q : State → Prop} (σ0 σe : jm) (hv : m_inv σ0) : ∀ (n s : Nat) (σ : jm), s + n = nv (σ0.1 0 36) → m_eh σ0 σ → m_h0 n s σ = σe → jj_J X Q 0 0 23 [(0, jR (some 0))] [] jm_T σe.1 σe.2 jm_R → jj_J X Q 0 0 2 [(0, jR (some 0)), (1, jI (nI s))] [] jm_T σ.1 σ.2 jm_R := by
  have hS := hv.S
  intro n
  induction n with
  | zero =>
    intro s σ hn he hs K
    have e9 : σ.1 0 36 = nI (nv (σ0.1 0 36)) := (he.1 _ _ (by decide)).trans hv.ts.2.1
    have h9 : σ.1 0 36 ≤ nI s := by rw [e9]; exact nI_le (by omega) (by omega)
    unfold m_h0 at hs
    subst hs
    refine jj_iload_n (pc := 2) hX dX25_hold_2 rfl ?_
    refine jj_aload_n (pc := 3) hX dX25_hold_3 rfl ?_
    refine jj_getI (pc := 4) hX fl_X25_157_25 dX25_hold_4 rfl rfl ?_
    refine jj_icmp_ge (pc := 7) hX 23 dX25_hold_7 rfl (fun _ => ?_) (fun q => absurd h9 q)
    refine jj_ls [(0, jR (some 0))] ⟨rfl, trivial⟩ ?_
    exact K
  | succ n ih =>
    intro s σ hn he hs K
    have e9 : σ.1 0 36 = nI (nv (σ0.1 0 36)) := (he.1 _ _ (by decide)).trans hv.ts.2.1
    have h9 : ¬ σ.1 0 36 ≤ nI s := by rw [e9]; exact nI_ge (by omega) (by omega)
    unfold m_h0 at hs
    refine jj_iload_n (pc := 2) hX dX25_hold_2 rfl ?_
    refine jj_aload_n (pc := 3) hX dX25_hold_3 rfl ?_
    refine jj_getI (pc := 4) hX fl_X25_157_25 dX25_hold_4 rfl rfl ?_
    refine jj_icmp_ge (pc := 7) hX 23 dX25_hold_7 rfl (fun q => absurd q h9) (fun _ => ?_)
    refine jj_aload_n (pc := 10) hX dX25_hold_10 rfl ?_
    refine jj_getR (pc := 11) hX (x := some 41) fl_X25_111_25 dX25_hold_11 rfl rfl rfl ?_
    refine jj_iload_n (pc := 14) hX dX25_hold_14 rfl ?_
    refine jj_iconst (pc := 15) hX (v := 0) dX25_hold_15 (by decide) ?_
    refine jj_zast (pc := 16) hX s dX25_hold_16 rfl rfl ⟨by omega, by omega⟩ (by decide) ?_
    refine jj_iinc (pc := 17) hX (v := nI (s + 1)) dX25_hold_17 rfl (ix_inc rfl) (by decide) ?_
    refine jj_goto (pc := 20) hX 2 dX25_hold_20 rfl ?_
    refine jj_ls [(0, jR (some 0)), (1, jI (nI (s + 1)))] ⟨rfl, rfl, trivial⟩ ?_
    exact ih (s + 1) _ (by omega) (he.w s 0) hs K

theorem w_hold_s {X : jj_X} (hX : jj_ok X cX25_hold "BranchCellsModel" 3 0 0 0 0) {Q : State → Prop} (σ0 : jm) (hv : m_inv σ0) (t : Nat) : ∀ (n : Nat) (s : Int32) (σ : jm), n ≤ nv (σ0.1 0 36) → m_ch n s → m_eh σ0 σ → (jj_J X Q 0 0 78 [(0, jR (some 0)), (1, jI (nI t))] [] jm_T (m_hs (n + 1) s σ).1 (m_hs (n + 1) s σ).2 jm_R) → jj_J X Q 0 0 55 [(0, jR (some 0)), (1, jI (nI t)), (2, jI s)] [] jm_T σ.1 σ.2 jm_R := by
  have hS := hv.S
  intro n
  induction n using Nat.strongRecOn with
  | ind n ih =>
    intro s σ hn hs he K
    unfold m_hs at K
    by_cases h : s = -4
    · rw [if_pos h] at K
      refine jj_iload_n (pc := 55) hX dX25_hold_55 rfl ?_
      refine jj_bipush (pc := 56) hX (v := (-4)) dX25_hold_56 (by decide) ?_
      refine jj_icmp_eq (pc := 58) hX 78 dX25_hold_58 rfl (fun _ => ?_) (fun q => absurd h q)
      refine jj_ls [(0, jR (some 0)), (1, jI (nI t))] ⟨rfl, rfl, trivial⟩ ?_
      exact K
    · rw [if_neg h] at K
      obtain ⟨h1, h2⟩ := hs.resolve_left h
      have h3 := hv.un (nv s) (by omega)
      have e : σ.1 38 (nv s) = σ0.1 38 (nv s) := he.1 _ _ (by decide)
      have e2 := m_hs_f hv.und (nv s) (n - nv s - 1) (σ0.1 38 (nv s)) _ (by omega) h3 (he.w (nv s) 1)
      rw [show nv s + 1 + (n - nv s - 1) = n by omega] at e2
      rw [e, e2] at K
      rw [← e] at K h3
      refine jj_iload_n (pc := 55) hX dX25_hold_55 rfl ?_
      refine jj_bipush (pc := 56) hX (v := (-4)) dX25_hold_56 (by decide) ?_
      refine jj_icmp_eq (pc := 58) hX 78 dX25_hold_58 rfl (fun q => absurd q h) (fun _ => ?_)
      refine jj_aload_n (pc := 61) hX dX25_hold_61 rfl ?_
      refine jj_getR (pc := 62) hX (x := some 41) fl_X25_111_25 dX25_hold_62 rfl rfl rfl ?_
      refine jj_iload_n (pc := 65) hX dX25_hold_65 rfl ?_
      refine jj_iconst (pc := 66) hX (v := 1) dX25_hold_66 (by decide) ?_
      refine jj_zast (pc := 67) hX (nv s) dX25_hold_67 rfl h1 ⟨by omega, by omega⟩ (by decide) ?_
      refine jj_aload_n (pc := 68) hX dX25_hold_68 rfl ?_
      refine jj_getR (pc := 69) hX (x := some 38) fl_X25_102_25 dX25_hold_69 rfl rfl rfl ?_
      refine jj_iload_n (pc := 72) hX dX25_hold_72 rfl ?_
      refine jj_iald (pc := 73) hX (nv s) dX25_hold_73 rfl rfl h1 ⟨by omega, by omega⟩ ?_
      refine jj_istore_n (pc := 74) hX dX25_hold_74 (by decide) ?_
      refine jj_goto (pc := 75) hX 55 dX25_hold_75 rfl ?_
      refine jj_ls [(0, jR (some 0)), (1, jI (nI t)), (2, jI (σ.1 38 (nv s)))] ⟨rfl, rfl, rfl, trivial⟩ ?_
      exact ih (nv s) h2 _ _ (by omega) h3 (he.w (nv s) 1) K

theorem w_hold_1 {X : jj_X} (hX : jj_ok X cX25_hold "BranchCellsModel" 3 0 0 0 0) (hr : jj_Ret X none) (σ0 σe : jm) (hv : m_inv σ0) : ∀ (n t : Nat) (σ : jm), t + n = nv (σ0.1 0 11) → m_eh σ0 σ → m_h1 n t σ = σe → jj_J X (jj_End X (jj_eq none jm_T σe.1 σe.2 jm_R) jj_no 0 0) 0 0 25 [(0, jR (some 0)), (1, jI (nI t))] [] jm_T σ.1 σ.2 jm_R := by
  have hS := hv.S
  have hT := hv.T
  intro n
  induction n with
  | zero =>
    intro t σ hn he hs
    have e9 : σ.1 0 11 = nI (nv (σ0.1 0 11)) := (he.1 _ _ (by decide)).trans hv.ts.1
    have h9 : σ.1 0 11 ≤ nI t := by rw [e9]; exact nI_le (by omega) (by omega)
    unfold m_h1 at hs
    subst hs
    refine jj_iload_n (pc := 25) hX dX25_hold_25 rfl ?_
    refine jj_aload_n (pc := 26) hX dX25_hold_26 rfl ?_
    refine jj_getI (pc := 27) hX fl_X25_160_25 dX25_hold_27 rfl rfl ?_
    refine jj_icmp_ge (pc := 30) hX 84 dX25_hold_30 rfl (fun _ => ?_) (fun q => absurd h9 q)
    exact jj_vret (pc := 84) hX dX25_hold_84 hr ⟨Nat.le_refl _, Nat.le_refl _⟩ (⟨rfl, rfl, rfl, rfl, rfl⟩)
  | succ n ih =>
    intro t σ hn he hs
    have e9 : σ.1 0 11 = nI (nv (σ0.1 0 11)) := (he.1 _ _ (by decide)).trans hv.ts.1
    have h9 : ¬ σ.1 0 11 ≤ nI t := by rw [e9]; exact nI_ge (by omega) (by omega)
    unfold m_h1 at hs
    have k9 := hv.tk t (by omega)
    have e1 : σ.1 22 t = σ0.1 22 t := he.1 _ _ (by decide)
    have e3 : m_ch (nv (σ0.1 0 36)) (if σ.1 15 t = 4 then -4 else σ.1 22 t) := by
      split
      · exact Or.inl rfl
      · rw [e1]; exact Or.inr k9.pr
    rw [m_hs_170 hv.und he (Nat.le_refl _) e3] at hs
    refine jj_iload_n (pc := 25) hX dX25_hold_25 rfl ?_
    refine jj_aload_n (pc := 26) hX dX25_hold_26 rfl ?_
    refine jj_getI (pc := 27) hX fl_X25_160_25 dX25_hold_27 rfl rfl ?_
    refine jj_icmp_ge (pc := 30) hX 84 dX25_hold_30 rfl (fun q => absurd q h9) (fun _ => ?_)
    refine jj_aload_n (pc := 33) hX dX25_hold_33 rfl ?_
    refine jj_getR (pc := 34) hX (x := some 15) fl_X25_41_25 dX25_hold_34 rfl rfl rfl ?_
    refine jj_iload_n (pc := 37) hX dX25_hold_37 rfl ?_
    refine jj_iald (pc := 38) hX t dX25_hold_38 rfl rfl rfl ⟨by omega, by omega⟩ ?_
    refine jj_iconst (pc := 39) hX (v := 4) dX25_hold_39 (by decide) ?_
    refine jj_icmp_ne (pc := 40) hX 48 dX25_hold_40 rfl (fun h40 => ?_) (fun h40 => ?_)
    · refine jj_aload_n (pc := 48) hX dX25_hold_48 rfl ?_
      refine jj_getR (pc := 49) hX (x := some 22) fl_X25_62_25 dX25_hold_49 rfl rfl rfl ?_
      refine jj_iload_n (pc := 52) hX dX25_hold_52 rfl ?_
      refine jj_iald (pc := 53) hX t dX25_hold_53 rfl rfl rfl ⟨by omega, by omega⟩ ?_
      refine jj_istore_n (pc := 54) hX dX25_hold_54 (by decide) ?_
      rw [if_neg h40] at hs e3
      refine jj_ls [(0, jR (some 0)), (1, jI (nI t)), (2, jI (σ.1 22 t))] ⟨rfl, rfl, rfl, trivial⟩ ?_
      refine w_hold_s hX σ0 hv t (nv (σ0.1 0 36)) (σ.1 22 t) σ (Nat.le_refl _) e3 he ?_
      refine jj_iinc (pc := 78) hX (v := nI (t + 1)) dX25_hold_78 rfl (ix_inc rfl) (by decide) ?_
      refine jj_goto (pc := 81) hX 25 dX25_hold_81 rfl ?_
      refine jj_ls [(0, jR (some 0)), (1, jI (nI (t + 1)))] ⟨rfl, rfl, trivial⟩ ?_
      exact ih (t + 1) _ (by omega) (m_hs_e _ _ _ he) hs
    · refine jj_bipush (pc := 43) hX (v := (-4)) dX25_hold_43 (by decide) ?_
      refine jj_goto (pc := 45) hX 54 dX25_hold_45 rfl ?_
      refine jj_istore_n (pc := 54) hX dX25_hold_54 (by decide) ?_
      rw [if_pos h40] at hs e3
      refine jj_ls [(0, jR (some 0)), (1, jI (nI t)), (2, jI (-4))] ⟨rfl, rfl, rfl, trivial⟩ ?_
      refine w_hold_s hX σ0 hv t (nv (σ0.1 0 36)) (-4) σ (Nat.le_refl _) e3 he ?_
      refine jj_iinc (pc := 78) hX (v := nI (t + 1)) dX25_hold_78 rfl (ix_inc rfl) (by decide) ?_
      refine jj_goto (pc := 81) hX 25 dX25_hold_81 rfl ?_
      refine jj_ls [(0, jR (some 0)), (1, jI (nI (t + 1)))] ⟨rfl, rfl, trivial⟩ ?_
      exact ih (t + 1) _ (by omega) (m_hs_e _ _ _ he) hs

theorem w_hold (G : jj_G) (σ : jm) (hv : m_inv σ) : jm_M G yX25_hold cX25_hold 3 none 0 0 [] σ (m_hold σ) none := by
  refine jj_intro "BranchCellsModel" (by decide) rfl (Nat.le_of_ble_eq_true rfl) ?_
  intro X hG hX hr hN hC hF
  subst hG
  refine jj_iconst (pc := 0) hX (v := 0) dX25_hold_0 (by decide) ?_
  refine jj_istore_n (pc := 1) hX dX25_hold_1 (by decide) ?_
  refine jj_ls [(0, jR (some 0)), (1, jI (nI 0))] ⟨rfl, rfl, trivial⟩ ?_
  refine w_hold_0 hX σ _ hv (nv (σ.1 0 36)) 0 σ (Nat.zero_add _) (m_eh.rf σ) rfl ?_
  refine jj_iconst (pc := 23) hX (v := 0) dX25_hold_23 (by decide) ?_
  refine jj_istore_n (pc := 24) hX dX25_hold_24 (by decide) ?_
  refine jj_ls [(0, jR (some 0)), (1, jI (nI 0))] ⟨rfl, rfl, trivial⟩ ?_
  exact w_hold_1 hX hr σ _ hv (nv (σ.1 0 11)) 0 _ (Nat.zero_add _) (m_h0_e _ _ _ (m_eh.rf σ)) rfl
