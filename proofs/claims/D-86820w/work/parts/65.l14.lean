set_option maxRecDepth 100000
/-- what a joining doesn't touch -/
def cj_sm (a σ : jm) : Prop := (∀ k j, k ≠ 39 → k ≠ 15 → k ≠ 34 → (k = 0 → j ≠ 35) → σ.1 k j = a.1 k j) ∧ ∀ k j, k ≠ 24 → k ≠ 33 → k ≠ 10 → k ≠ 40 → σ.2 k j = a.2 k j
theorem cj_sm.rf {a : jm} : cj_sm a a := ⟨fun _ _ _ _ _ _ => rfl, fun _ _ _ _ _ _ => rfl⟩
theorem cj_sm.u {a σ : jm} (h : cj_sm a σ) {k j : Nat} {v : Int32} (hk : k = 39 ∨ k = 15 ∨ k = 34 ∨ (k = 0 ∧ j = 35)) : cj_sm a (m_u σ k j v) := ⟨fun x y h1 h2 h3 h5 => (mu_n (by by_cases z : x = 0; have := h5 z; omega; omega)).trans (h.1 x y h1 h2 h3 h5), h.2⟩
theorem cj_sm.v {a σ : jm} (h : cj_sm a σ) {k j : Nat} {v : Int64} (hk : k = 24 ∨ k = 33 ∨ k = 10 ∨ k = 40) : cj_sm a (m_v σ k j v) := ⟨h.1, fun x y h1 h2 h3 h4 => (mv_n (by omega)).trans (h.2 x y h1 h2 h3 h4)⟩
theorem cj_sm.tell {a σ : jm} (h : cj_sm a σ) {t : Nat} {v : Int64} : cj_sm a (m_tell t v σ) := by
  unfold m_tell
  split
  · exact h
  · exact (h.v (by omega)).u (by omega)
theorem cj_sm.und {a σ : jm} (h : cj_sm a σ) (hu : m_und a) : m_und σ := by
  have e : σ.1 0 36 = a.1 0 36 := h.1 0 36 (by decide) (by decide) (by decide) (by decide)
  refine ⟨by rw [e]; exact hu.1, fun k hk => ?_⟩
  rw [e] at hk
  rw [h.1 38 k (by decide) (by decide) (by decide) (by omega)]
  exact hu.2 k hk
theorem cj_sm.pr {a σ : jm} (h : cj_sm a σ) (hu : m_pr a) : m_pr σ := by
  refine ⟨?_, fun i hi => ?_, fun i hi => ?_⟩
  · rw [h.1 0 4 (by decide) (by decide) (by decide) (by omega)]; exact hu.1
  · rw [h.1 6 i (by decide) (by decide) (by decide) (by omega)]; exact hu.2.1 i hi
  · rw [h.1 7 i (by decide) (by decide) (by decide) (by omega)]; exact hu.2.2 i hi
theorem cj_sm.rc {a σ : jm} (h : cj_sm a σ) {rt : Int32} : ∀ (n : Nat) (s : Int32), m_rc a rt n s → m_rc σ rt n s := by
  intro n
  induction n with
  | zero => intro s hs; exact hs
  | succ n ih =>
    intro s hs
    rcases hs with hs | ⟨h1, h2, h3, h4⟩
    · exact Or.inl hs
    · exact Or.inr ⟨h1, h2, h3, by rw [h.1 38 _ (by decide) (by decide) (by decide) (by omega)]; exact ih _ h4⟩
theorem m_tell_t {t u : Nat} {v : Int64} {σ : jm} (h : u ≠ t) : (m_tell t v σ).1 34 u = σ.1 34 u := by
  unfold m_tell
  split
  · rfl
  · rw [mu_n (Or.inr h), mv_1]
theorem m_tell_s {t : Nat} {v : Int64} {σ : jm} (h : σ.1 34 t = nI (nv (σ.1 34 t))) (h60 : nv (σ.1 34 t) ≤ 60) : (m_tell t v σ).1 34 t = nI (nv ((m_tell t v σ).1 34 t)) := by
  unfold m_tell
  split
  · exact h
  · rw [mu_s, ← sz_u h, nv_nI (by omega)]
theorem m_tell_2 {t : Nat} {v : Int64} {σ : jm} {k j : Nat} (h : k ≠ 33) : (m_tell t v σ).2 k j = σ.2 k j := by
  unfold m_tell
  split
  · rfl
  · rw [mu_2, mv_n (Or.inl h)]
theorem m_vv {σ : jm} {k j k' j' : Nat} {v v' : Int64} (h : k ≠ k' ∨ j ≠ j') : m_v (m_v σ k j v) k' j' v' = m_v (m_v σ k' j' v') k j v := by
  refine Prod.ext rfl (funext fun a => funext fun b => ?_)
  show jj_u (jj_u σ.2 k j v) k' j' v' a b = jj_u (jj_u σ.2 k' j' v') k j v a b
  unfold jj_u
  by_cases h1 : a = k ∧ b = j
  · rw [if_pos h1, if_neg (by omega), if_pos h1]
  · rw [if_neg h1]
    by_cases h2 : a = k' ∧ b = j'
    · rw [if_pos h2, if_neg h1]
    · rw [if_neg h2, if_neg h1]
theorem m_tell_c {t u : Nat} {v m : Int64} {σ : jm} : m_tell t v (m_v σ 24 u m) = m_v (m_tell t v σ) 24 u m := by
  unfold m_tell
  by_cases h : 60 ≤ σ.1 34 t
  · rw [if_pos h, if_pos (show 60 ≤ (m_v σ 24 u m).1 34 t from h)]
  · rw [if_neg h, if_neg (show ¬ 60 ≤ (m_v σ 24 u m).1 34 t from h)]
    show m_u (m_v (m_v σ 24 u m) 33 (60 * t + nv (σ.1 34 t)) v) 34 t (σ.1 34 t + 1) = _
    rw [m_vv (Or.inl (by decide))]
    rfl
theorem m_tls_c {t o u : Nat} {m : Int64} : ∀ (n k : Nat) (σ : jm), m_tls t o n k (m_v σ 24 u m) = m_v (m_tls t o n k σ) 24 u m := by
  intro n
  induction n with
  | zero => intro k σ; rfl
  | succ n ih =>
    intro k σ
    unfold m_tls
    rw [mv_n (Or.inl (by decide)), m_tell_c, ih]
theorem m_tls_sm {a : jm} {t o : Nat} : ∀ (n k : Nat) (σ : jm), cj_sm a σ → cj_sm a (m_tls t o n k σ)
  | 0, _, _, h => h
  | n + 1, k, σ, h => m_tls_sm n (k + 1) _ h.tell
theorem m_tls_2 {t o k9 j9 : Nat} (h9 : k9 ≠ 33) : ∀ (n k : Nat) (σ : jm), (m_tls t o n k σ).2 k9 j9 = σ.2 k9 j9 := by
  intro n
  induction n with
  | zero => intro k σ; rfl
  | succ n ih => intro k σ; unfold m_tls; rw [ih, m_tell_2 h9]
theorem m_tell_1 {t k9 j9 : Nat} {v : Int64} {σ : jm} (h9 : k9 ≠ 34) : (m_tell t v σ).1 k9 j9 = σ.1 k9 j9 := by
  unfold m_tell
  split
  · rfl
  · rw [mu_n (Or.inl h9), mv_1]
theorem m_tls_1 {t o k9 j9 : Nat} (h9 : k9 ≠ 34) : ∀ (n k : Nat) (σ : jm), (m_tls t o n k σ).1 k9 j9 = σ.1 k9 j9 := by
  intro n
  induction n with
  | zero => intro k σ; rfl
  | succ n ih => intro k σ; unfold m_tls; rw [ih, m_tell_1 h9]
theorem v_joins_a {X : jj_X} {o : jj_T} {mc ms : Nat} (hX : kk_ok X cX0_joins "BranchCells" 5 5 112 mc ms) {Q : State → Prop} {τ : jj_T} {r : jj_R} {β : Nat} {ss : List Nat} {e N : Nat → Nat} {ρ : jm} {pl : Nat → Int32} {t o9 : Nat} (hto : o9 ≠ t) (NN : Nat) (h60 : NN ≤ 60) (σe : jm) (K : ∀ (I : jj_I) (L : jj_L), cr_rel β ss e N ρ pl σe τ I L r → kk_J X o Q 0 0 31 [(0, jR (some 10)), (1, jR (some (β + 5000 + 20 * t))), (2, jR (some (β + 5000 + 20 * o9)))] [] τ I L r) : ∀ (f k : Nat) (σ : jm) (I : jj_I) (L : jj_L), cr_rel β ss e N ρ pl σ τ I L r → k + f = NN → t < nv (σ.1 0 11) → o9 < nv (σ.1 0 11) → σ.1 34 t = nI (nv (σ.1 34 t)) → σ.1 34 o9 = nI NN → m_tls t o9 f k σ = σe → kk_J X o Q 0 0 7 [(0, jR (some 10)), (1, jR (some (β + 5000 + 20 * t))), (2, jR (some (β + 5000 + 20 * o9))), (3, jI (nI k))] [] τ I L r := by
  intro f
  induction f with
  | zero =>
    intro k σ I L h hk9 ht ho9 hqt hqo he
    unfold m_tls at he
    subst he
    have ho := h.tk o9 ho9
    have hk := h.tk t ht
    refine kk_iload_n (pc := 7) hX dX0_joins_7 rfl ?_
    refine kk_aload_n (pc := 8) hX dX0_joins_8 rfl ?_
    refine kk_getI (pc := 9) hX fl_X0_201_29 dX0_joins_9 ho.k.k0 rfl ?_
    refine kk_top (nI NN) (ho.v.os.trans hqo) ?_
    refine kk_icmp_ge (pc := 12) hX 31 dX0_joins_12 rfl (fun _ => ?_) (fun q => absurd (nI_le (show NN ≤ k by omega) (by omega)) q)
    refine kk_lss [(0, jR (some 10)), (1, jR (some (β + 5000 + 20 * t))), (2, jR (some (β + 5000 + 20 * o9)))] ⟨rfl, rfl, rfl, trivial⟩ ?_
    exact K I L h
  | succ f ih =>
    intro k σ I L h hk9 ht ho9 hqt hqo he
    unfold m_tls at he
    have ho := h.tk o9 ho9
    have hk := h.tk t ht
    have hNN : nv (σ.1 34 o9) = NN := by rw [hqo, nv_nI (by omega)]
    refine kk_iload_n (pc := 7) hX dX0_joins_7 rfl ?_
    refine kk_aload_n (pc := 8) hX dX0_joins_8 rfl ?_
    refine kk_getI (pc := 9) hX fl_X0_201_29 dX0_joins_9 ho.k.k0 rfl ?_
    refine kk_top (nI NN) (ho.v.os.trans hqo) ?_
    refine kk_icmp_ge (pc := 12) hX 31 dX0_joins_12 rfl (fun q => absurd q (nI_ge (show k < NN by omega) (by omega))) (fun _ => ?_)
    refine kk_aload_n (pc := 15) hX dX0_joins_15 rfl ?_
    refine kk_aload_n (pc := 16) hX dX0_joins_16 rfl ?_
    refine kk_getR (pc := 17) hX (x := some (β + 5000 + 20 * o9 + 10)) fl_X0_204_29 dX0_joins_17 ho.k.k0 rfl ho.l.ou ?_
    refine kk_iload_n (pc := 20) hX dX0_joins_20 rfl ?_
    refine kk_lald (pc := 21) hX k dX0_joins_21 ho.k.k10 rfl rfl ⟨by omega, by omega⟩ ?_
    refine kk_topL (σ.2 33 (60 * o9 + k)) (ho.c.on k (by rw [hNN]; omega)) ?_
    refine kk_callV (pc := 22) hX (v_ctell X.1 _ _ _ _ h ht hqt (σ.2 33 (60 * o9 + k))) dX0_joins_22 (lw_V q1164 q1165 q1166 q88 q1167) rfl ⟨by decide +kernel, by decide +kernel, by show _ = some (1 : Nat); decide +kernel⟩ ⟨Nat.le_of_ble_eq_true rfl, Nat.le_of_ble_eq_true rfl, Nat.le_of_ble_eq_true rfl, Nat.le_of_ble_eq_true rfl, Nat.le_of_ble_eq_true rfl⟩ (fun q => by cases q) hk.k.k0 jc_29 rfl (fun _ _ I2 L2 _ hP => ?_) jj_kno
    obtain ⟨rfl, rfl, rfl, h2⟩ := hP
    refine kk_iinc (pc := 25) hX (v := nI (k + 1)) dX0_joins_25 rfl (kx_inc rfl) (by decide) ?_
    refine kk_goto (pc := 28) hX 7 dX0_joins_28 rfl ?_
    refine kk_lss [(0, jR (some 10)), (1, jR (some (β + 5000 + 20 * t))), (2, jR (some (β + 5000 + 20 * o9))), (3, jI (nI (k + 1)))] ⟨rfl, rfl, rfl, rfl, trivial⟩ ?_
    exact ih (k + 1) _ I2 L2 h2 (by omega) (by rw [m_tell_1 (by decide)]; exact ht) (by rw [m_tell_1 (by decide)]; exact ho9) (m_tell_s hqt (h.po t ht).2) ((m_tell_t hto).trans hqo) he
