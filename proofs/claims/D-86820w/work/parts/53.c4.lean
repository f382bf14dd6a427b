set_option maxRecDepth 100000
theorem cr_rel.gar2 {β : Nat} {ss : List Nat} {e N : Nat → Nat} {ρ : jm} {pl : Nat → Int32} {σ : jm} {τ τ' : jj_T} {I I' : jj_I} {L L' : jj_L} {r r' : jj_R} (h : cr_rel β ss e N ρ pl σ τ I L r) {q : Nat} (hq : ∀ i, 13 ≤ i → i ≤ 16 → e i ≠ q) (hq9 : β + 10000 ≤ q) (hτ : ∀ b, b ≠ q → τ' b = τ b) (hI : ∀ b, b ≠ q → I' b = I b) (hL : ∀ b, b ≠ q → L' b = L b) (hr : ∀ b, b ≠ q → r' b = r b) : cr_rel β ss e N ρ pl σ τ' I' L' r' := by
  have B := h.e
  have hb := B.be
  have h9 := h.bd
  have A : ∀ a n, (∀ b, a ≤ b → b < a + n → b ≠ q) → cr_ag a n τ I L r τ' I' L' r' := fun a n hz b h1 h2 => ⟨hτ b (hz b h1 h2), hI b (hz b h1 h2), hL b (hz b h1 h2), hr b (hz b h1 h2)⟩
  have X : ∀ {th a n m : Nat} {f : Nat → Nat}, th < 300 → a ≠ q → cr_lst th a n m f τ I r → cr_lst th a n m f τ' I' r' := fun {th a n m f} hth hne hl => by
    exact hl.cg (hτ _ (by omega)) (congrFun (hI _ (by omega)) 2) (hr _ (by omega)) (hτ _ hne) (hr _ hne)
  refine ⟨h.ro.cg (A 0 1 (by omega)) (A 20 22 (by omega)) (fun b hb9 => hτ b (by omega)) (hr 10 (by omega)) (hr 11 (by omega)), h.sc.cg (hI 10 (by omega)) (hI 12 (by omega)) (fun _ => rfl) (fun _ => rfl), X (by decide) (hq 13 (by decide) (by decide)) h.lb, X (by decide) (hq 14 (by decide) (by decide)) h.lm, X (by decide) (hq 15 (by decide) (by decide)) h.lt, X (by decide) (hq 16 (by decide) (by decide)) h.ls, fun b hb2 => ?_, fun b hb2 => ?_, fun u hu => ?_, fun s hs2 => ?_, ?_, h.ss, B, h.mo.cg (A 300 42 (by omega)), h.po, h.bd⟩
  · exact (h.bl b hb2).cg (A _ _ (by omega)) rfl (fun _ _ => ⟨rfl, rfl⟩)
  · exact (h.mg b hb2).cg (A _ _ (by omega)) rfl (fun _ _ => ⟨rfl, rfl⟩)
  · exact (h.tk u hu).cg (A _ _ (by omega)) (fun _ _ _ => ⟨rfl, rfl⟩) rfl (h.po u hu)
  · exact (h.sg s hs2).cg (A _ _ (by omega)) (fun _ => rfl) (fun _ _ => rfl) (fun _ _ => rfl)
  · exact ⟨fun b h1 h2 i hi => (hτ _ (by omega)).trans (h.fr.b b h1 h2 i hi), fun b h1 h2 i hi => (hτ _ (by omega)).trans (h.fr.m b h1 h2 i hi), fun t h1 h2 i hi => (hτ _ (by omega)).trans (h.fr.t t h1 h2 i hi), fun s h1 h2 i hi => (hτ _ (by omega)).trans (h.fr.s s h1 h2 i hi)⟩
theorem cr_rel.ne {β : Nat} {ss : List Nat} {e N : Nat → Nat} {ρ : jm} {pl : Nat → Int32} {σ : jm} {τ : jj_T} {I : jj_I} {L : jj_L} {r : jj_R} (h : cr_rel β ss e N ρ pl σ τ I L r) {q : Nat} (hq : τ q = none) : ∀ i, 13 ≤ i → i ≤ 16 → e i ≠ q := fun i h1 h2 => by
  rcases (show i = 13 ∨ i = 14 ∨ i = 15 ∨ i = 16 by omega) with z | z | z | z <;> subst z
  · exact kk_nf h.lb.ke hq
  · exact kk_nf h.lm.ke hq
  · exact kk_nf h.lt.ke hq
  · exact kk_nf h.ls.ke hq
theorem cr_rel.gar {β : Nat} {ss : List Nat} {e N : Nat → Nat} {ρ : jm} {pl : Nat → Int32} {σ : jm} {τ τ' : jj_T} {I I' : jj_I} {L L' : jj_L} {r r' : jj_R} (h : cr_rel β ss e N ρ pl σ τ I L r) {q : Nat} (hq : τ q = none) (hq9 : β + 10000 ≤ q) (hτ : ∀ b, b ≠ q → τ' b = τ b) (hI : ∀ b, b ≠ q → I' b = I b) (hL : ∀ b, b ≠ q → L' b = L b) (hr : ∀ b, b ≠ q → r' b = r b) : cr_rel β ss e N ρ pl σ τ' I' L' r' := h.gar2 (h.ne hq) hq9 hτ hI hL hr
/-- one segment's values change -/
theorem cr_rel.seg {β : Nat} {ss : List Nat} {e N : Nat → Nat} {ρ : jm} {pl : Nat → Int32} {σ σ' : jm} {τ : jj_T} {I I' : jj_I} {L L' : jj_L} {r r' : jj_R} (h : cr_rel β ss e N ρ pl σ τ I L r) {s : Nat} (hs : s < nv (σ.1 0 36)) (hg : ∀ b, ¬ (β + 1000 + 10 * s ≤ b ∧ b < β + 1000 + 10 * s + 2) → I' b = I b ∧ L' b = L b ∧ r' b = r b) (hσ : ∀ k j, ¬ ((k = 39 ∨ k = 40) ∧ j / 16 = s) → σ'.1 k j = σ.1 k j ∧ σ'.2 k j = σ.2 k j) (hS : cr_seg β σ' ss s (β + 1000 + 10 * s) τ I' L' r') : cr_rel β ss e N ρ pl σ' τ I' L' r' := by
  have A : ∀ a n, (∀ b, a ≤ b → b < a + n → ¬ (β + 1000 + 10 * s ≤ b ∧ b < β + 1000 + 10 * s + 2)) → cr_ag a n τ I L r τ I' L' r' := fun a n hz b h1 h2 => ⟨rfl, hg b (hz b h1 h2)⟩
  have B := h.e
  have hb := B.be
  have h9 := h.bd
  have q0 : ∀ j, σ'.1 0 j = σ.1 0 j := fun j => (hσ 0 j (by omega)).1
  have qk : ∀ k j, ¬ (k = 39 ∨ k = 40) → σ'.1 k j = σ.1 k j ∧ σ'.2 k j = σ.2 k j := fun k j hk => hσ k j (by omega)
  have E : ∀ i, 13 ≤ i → i ≤ 16 → r' (e i) = r (e i) := fun i h1 h2 => (hg (e i) (by have := B.ou i h1 h2; omega)).2.2
  have F : ∀ i, 13 ≤ i → i ≤ 16 → I' i = I i ∧ r' i = r i := fun i h1 h2 => ⟨(hg i (by omega)).1, (hg i (by omega)).2.2⟩
  refine ⟨h.ro.cg (A 0 1 (by omega)) (A 20 22 (by omega)) (fun _ _ => rfl) (hg 10 (by omega)).2.2 (hg 11 (by omega)).2.2, h.sc.cg (hg 10 (by omega)).1 (hg 12 (by omega)).1 q0 (fun j => (qk 9 j (by omega)).1), ?_, ?_, ?_, ?_, fun b hb2 => ?_, fun b hb2 => ?_, fun u hu => ?_, fun z hz => ?_, ?_, ?_, B, h.mo.cg (A 300 42 (by omega)), fun u hu => ?_, ?_⟩
  · rw [q0]; exact h.lb.cg rfl (congrFun (F 13 (by omega) (by omega)).1 2) (F 13 (by omega) (by omega)).2 rfl (E 13 (by omega) (by omega))
  · rw [q0]; exact h.lm.cg rfl (congrFun (F 14 (by omega) (by omega)).1 2) (F 14 (by omega) (by omega)).2 rfl (E 14 (by omega) (by omega))
  · rw [q0]; exact h.lt.cg rfl (congrFun (F 15 (by omega) (by omega)).1 2) (F 15 (by omega) (by omega)).2 rfl (E 15 (by omega) (by omega))
  · exact h.ls.cg rfl (congrFun (F 16 (by omega) (by omega)).1 2) (F 16 (by omega) (by omega)).2 rfl (E 16 (by omega) (by omega))
  · rw [q0] at hb2
    exact (h.bl b hb2).cg (A _ _ (by omega)) (qk 2 _ (by omega)).1 (fun i _ => ⟨(qk 3 _ (by omega)).1, (qk 4 _ (by omega)).1⟩)
  · rw [q0] at hb2
    exact (h.mg b hb2).cg (A _ _ (by omega)) (qk 6 _ (by omega)).1 (fun i _ => ⟨(qk 7 _ (by omega)).1, (qk 8 _ (by omega)).1⟩)
  · rw [q0] at hu
    refine (h.tk u hu).cg (A _ _ (by omega)) (fun k j hk => qk k j fun z => ?_) rfl (h.po u hu)
    unfold cr_tcell at hk
    omega
  · rw [q0] at hz
    by_cases hzs : z = s
    · subst hzs; exact hS
    · exact (h.sg z hz).cg (A _ _ (by omega)) (fun _ => (qk 38 _ (by omega)).1) (fun c _ => (hσ 39 _ (by omega)).1) (fun c _ => (hσ 40 _ (by omega)).2)
  · rw [q0, q0, q0, q0]; exact h.fr
  · refine ⟨h.ss.so, fun z hz => by rw [q0]; exact h.ss.lt z hz, fun z hz => by rw [(qk 38 z (by omega)).1]; exact h.ss.un z hz, fun u hu h4 => ?_, fun u hu h4 => ?_⟩
    · rw [q0] at hu
      rw [(qk 15 u (by omega)).1] at h4
      rw [(qk 22 u (by omega)).1]; exact h.ss.pr u hu h4
    · rw [q0] at hu
      rw [(qk 15 u (by omega)).1] at h4
      rw [(qk 23 u (by omega)).1]; exact h.ss.ro u hu h4
  · rw [q0] at hu
    rw [(qk 32 u (by omega)).1, (qk 34 u (by omega)).1]; exact h.po u hu
  · rw [q0, q0, q0, q0]; exact h.bd
theorem at_write {β : Nat} {ss : List Nat} {e N : Nat → Nat} {ρ : jm} {pl : Nat → Int32} {σ : jm} {τ : jj_T} {I : jj_I} {L : jj_L} {r : jj_R} (h : cr_rel β ss e N ρ pl σ τ I L r) {s : Nat} (hs : s < nv (σ.1 0 36)) (c : Nat) (v : Int64) (hc : c < 16) : cr_rel β ss e N ρ pl (m_v (m_u σ 39 (16 * s + c) 1) 40 (16 * s + c) v) τ (jj_u I (β + 1000 + 10 * s) 3 ((I (β + 1000 + 10 * s) 3) ||| (1 <<< (nI c &&& 31)))) (jj_u L (β + 1000 + 10 * s + 1) c v) r := by
  have hk := h.sg s hs
  refine h.seg hs (fun b hb => ⟨jj_ua (by omega), jj_ua (by omega), rfl⟩) (fun k j hk => ⟨jj_un (by omega), jj_un (by omega)⟩) ⟨hk.k0, hk.k1, hk.l2, (jj_un (Or.inr (by decide))).trans hk.nu, fun hz => (hk.be hz).trans (congrArg (cr_sr β) (Eq.symm (Eq.trans mv_1 (mu_n (Or.inl (by decide)))))), ?_, fun d hd hv => ?_⟩
  · refine jj_us.trans ?_
    rw [hk.ha, cs_write (v := 1) (by decide) hc]
    exact congrArg nI (cr_sb.cg 16 (fun _ _ => rfl)).symm
  · by_cases hdc : d = c
    · subst hdc
      exact jj_us.trans (Eq.symm mv_s)
    · exact (jj_un (Or.inr hdc)).trans ((hk.va d hd (fun z => hv (Eq.trans mv_1 (Eq.trans (mu_n (Or.inr (by omega))) z)))).trans (Eq.symm (Eq.trans (mv_n (Or.inr (by omega))) mu_2)))
theorem at_sa {β : Nat} {ss : List Nat} {e N : Nat → Nat} {ρ : jm} {pl : Nat → Int32} {σ : jm} {τ : jj_T} {I : jj_I} {L : jj_L} {r : jj_R} (h : cr_rel β ss e N ρ pl σ τ I L r) (a : Int32) : cr_rel β ss e N ρ pl (m_u σ 0 34 a) τ (jj_u I 10 8 a) L r := by
  have B := h.e
  have hb := B.be
  have h9 := h.bd
  have q0 : ∀ j, j ≠ 34 → (m_u σ 0 34 a).1 0 j = σ.1 0 j := fun j hj => jj_un (Or.inr hj)
  have qk : ∀ k j, k ≠ 0 → (m_u σ 0 34 a).1 k j = σ.1 k j := fun k j hj => jj_un (Or.inl hj)
  have hI : ∀ b, b ≠ 10 → jj_u I 10 8 a b = I b := fun b hb => jj_ua hb
  have A : ∀ x n, (∀ b, x ≤ b → b < x + n → b ≠ 10) → cr_ag x n τ I L r τ (jj_u I 10 8 a) L r := fun x n hz b h1 h2 => ⟨rfl, hI b (hz b h1 h2), rfl, rfl⟩
  refine ⟨h.ro.cg (A 0 1 (by omega)) (A 20 22 (by omega)) (fun _ _ => rfl) rfl rfl, ⟨(jj_un (Or.inr (by decide))).trans (h.sc.ru.trans (q0 10 (by decide)).symm), (jj_un (Or.inr (by decide))).trans (h.sc.se.trans (q0 36 (by decide)).symm), jj_us.trans (Eq.symm mu_s), (jj_un (Or.inr (by decide))).trans (h.sc.me.trans (q0 35 (by decide)).symm), fun c hc => (congrFun (hI 12 (by omega)) c).trans ((h.sc.ki c hc).trans (qk 9 c (by decide)).symm)⟩, ?_, ?_, ?_, ?_, fun b hb2 => ?_, fun b hb2 => ?_, fun u hu => ?_, fun z hz => ?_, ?_, ?_, B, h.mo.cg (A 300 42 (by omega)), fun u hu => ?_, ?_⟩
  · rw [q0 0 (by decide)]; exact h.lb.cg rfl (congrFun (hI 13 (by omega)) 2) rfl rfl rfl
  · rw [q0 4 (by decide)]; exact h.lm.cg rfl (congrFun (hI 14 (by omega)) 2) rfl rfl rfl
  · rw [q0 11 (by decide)]; exact h.lt.cg rfl (congrFun (hI 15 (by omega)) 2) rfl rfl rfl
  · exact h.ls.cg rfl (congrFun (hI 16 (by omega)) 2) rfl rfl rfl
  · rw [q0 0 (by decide)] at hb2
    exact (h.bl b hb2).cg (A _ _ (by omega)) (qk 2 _ (by decide)) (fun i _ => ⟨qk 3 _ (by decide), qk 4 _ (by decide)⟩)
  · rw [q0 4 (by decide)] at hb2
    exact (h.mg b hb2).cg (A _ _ (by omega)) (qk 6 _ (by decide)) (fun i _ => ⟨qk 7 _ (by decide), qk 8 _ (by decide)⟩)
  · rw [q0 11 (by decide)] at hu
    refine (h.tk u hu).cg (A _ _ (by omega)) (fun k j hk => ⟨qk k j fun z => ?_, rfl⟩) rfl (h.po u hu)
    unfold cr_tcell at hk
    omega
  · rw [q0 36 (by decide)] at hz
    exact (h.sg z hz).cg (A _ _ (by omega)) (fun _ => qk 38 _ (by decide)) (fun c _ => qk 39 _ (by decide)) (fun c _ => rfl)
  · rw [q0 0 (by decide), q0 4 (by decide), q0 11 (by decide), q0 36 (by decide)]; exact h.fr
  · refine ⟨h.ss.so, fun z hz => by rw [q0 36 (by decide)]; exact h.ss.lt z hz, fun z hz => by rw [qk 38 z (by decide)]; exact h.ss.un z hz, fun u hu h4 => ?_, fun u hu h4 => ?_⟩
    · rw [q0 11 (by decide)] at hu
      rw [qk 15 u (by decide)] at h4
      rw [qk 22 u (by decide)]; exact h.ss.pr u hu h4
    · rw [q0 11 (by decide)] at hu
      rw [qk 15 u (by decide)] at h4
      rw [qk 23 u (by decide)]; exact h.ss.ro u hu h4
  · rw [q0 11 (by decide)] at hu
    rw [qk 32 u (by decide), qk 34 u (by decide)]; exact h.po u hu
  · rw [q0 0 (by decide), q0 4 (by decide), q0 11 (by decide), q0 36 (by decide)]; exact h.bd
theorem at_me {β : Nat} {ss : List Nat} {e N : Nat → Nat} {ρ : jm} {pl : Nat → Int32} {σ : jm} {τ : jj_T} {I : jj_I} {L : jj_L} {r : jj_R} (h : cr_rel β ss e N ρ pl σ τ I L r) (a : Int32) : cr_rel β ss e N ρ pl (m_u σ 0 35 a) τ (jj_u I 10 9 a) L r := by
  have B := h.e
  have hb := B.be
  have h9 := h.bd
  have q0 : ∀ j, j ≠ 35 → (m_u σ 0 35 a).1 0 j = σ.1 0 j := fun j hj => jj_un (Or.inr hj)
  have qk : ∀ k j, k ≠ 0 → (m_u σ 0 35 a).1 k j = σ.1 k j := fun k j hj => jj_un (Or.inl hj)
  have hI : ∀ b, b ≠ 10 → jj_u I 10 9 a b = I b := fun b hb => jj_ua hb
  have A : ∀ x n, (∀ b, x ≤ b → b < x + n → b ≠ 10) → cr_ag x n τ I L r τ (jj_u I 10 9 a) L r := fun x n hz b h1 h2 => ⟨rfl, hI b (hz b h1 h2), rfl, rfl⟩
  refine ⟨h.ro.cg (A 0 1 (by omega)) (A 20 22 (by omega)) (fun _ _ => rfl) rfl rfl, ⟨(jj_un (Or.inr (by decide))).trans (h.sc.ru.trans (q0 10 (by decide)).symm), (jj_un (Or.inr (by decide))).trans (h.sc.se.trans (q0 36 (by decide)).symm), (jj_un (Or.inr (by decide))).trans (h.sc.sa.trans (q0 34 (by decide)).symm), jj_us.trans (Eq.symm mu_s), fun c hc => (congrFun (hI 12 (by omega)) c).trans ((h.sc.ki c hc).trans (qk 9 c (by decide)).symm)⟩, ?_, ?_, ?_, ?_, fun b hb2 => ?_, fun b hb2 => ?_, fun u hu => ?_, fun z hz => ?_, ?_, ?_, B, h.mo.cg (A 300 42 (by omega)), fun u hu => ?_, ?_⟩
  · rw [q0 0 (by decide)]; exact h.lb.cg rfl (congrFun (hI 13 (by omega)) 2) rfl rfl rfl
  · rw [q0 4 (by decide)]; exact h.lm.cg rfl (congrFun (hI 14 (by omega)) 2) rfl rfl rfl
  · rw [q0 11 (by decide)]; exact h.lt.cg rfl (congrFun (hI 15 (by omega)) 2) rfl rfl rfl
  · exact h.ls.cg rfl (congrFun (hI 16 (by omega)) 2) rfl rfl rfl
  · rw [q0 0 (by decide)] at hb2
    exact (h.bl b hb2).cg (A _ _ (by omega)) (qk 2 _ (by decide)) (fun i _ => ⟨qk 3 _ (by decide), qk 4 _ (by decide)⟩)
  · rw [q0 4 (by decide)] at hb2
    exact (h.mg b hb2).cg (A _ _ (by omega)) (qk 6 _ (by decide)) (fun i _ => ⟨qk 7 _ (by decide), qk 8 _ (by decide)⟩)
  · rw [q0 11 (by decide)] at hu
    refine (h.tk u hu).cg (A _ _ (by omega)) (fun k j hk => ⟨qk k j fun z => ?_, rfl⟩) rfl (h.po u hu)
    unfold cr_tcell at hk
    omega
  · rw [q0 36 (by decide)] at hz
    exact (h.sg z hz).cg (A _ _ (by omega)) (fun _ => qk 38 _ (by decide)) (fun c _ => qk 39 _ (by decide)) (fun c _ => rfl)
  · rw [q0 0 (by decide), q0 4 (by decide), q0 11 (by decide), q0 36 (by decide)]; exact h.fr
  · refine ⟨h.ss.so, fun z hz => by rw [q0 36 (by decide)]; exact h.ss.lt z hz, fun z hz => by rw [qk 38 z (by decide)]; exact h.ss.un z hz, fun u hu h4 => ?_, fun u hu h4 => ?_⟩
    · rw [q0 11 (by decide)] at hu
      rw [qk 15 u (by decide)] at h4
      rw [qk 22 u (by decide)]; exact h.ss.pr u hu h4
    · rw [q0 11 (by decide)] at hu
      rw [qk 15 u (by decide)] at h4
      rw [qk 23 u (by decide)]; exact h.ss.ro u hu h4
  · rw [q0 11 (by decide)] at hu
    rw [qk 32 u (by decide), qk 34 u (by decide)]; exact h.po u hu
  · rw [q0 0 (by decide), q0 4 (by decide), q0 11 (by decide), q0 36 (by decide)]; exact h.bd
