set_option maxRecDepth 100000
theorem cr_lst.f {th e N n : Nat} {f g : Nat → Nat} {τ : jj_T} {I : jj_I} {r : jj_R} (h : cr_lst th e N n f τ I r) (hf : ∀ i, i < n → f i = g i) : cr_lst th e N n g τ I r := ⟨h.k0, h.l1, h.sz, h.ke, h.le, h.lt, h.z0, fun i hi => (h.el i hi).trans (congrArg some (hf i hi)), h.no⟩
theorem cr_rel.plc {β : Nat} {ss : List Nat} {e N : Nat → Nat} {ρ : jm} {pl pl' : Nat → Int32} {σ : jm} {τ : jj_T} {I : jj_I} {L : jj_L} {r : jj_R} (h : cr_rel β ss e N ρ pl σ τ I L r) (hp : ∀ u, u < nv (σ.1 0 11) → pl' u = pl u) : cr_rel β ss e N ρ pl' σ τ I L r :=
  ⟨h.ro, h.sc, h.lb, h.lm, h.lt, h.ls, h.bl, h.mg, fun u hu => (h.tk u hu).cg (fun _ _ _ => ⟨rfl, rfl, rfl, rfl⟩) (fun _ _ _ => ⟨rfl, rfl⟩) (hp u hu) (h.po u hu), h.sg, h.fr, h.ss, h.e, h.mo, h.po, h.bd⟩
theorem cr_in.ap {ss : List Nat} {x : Int32} {n : Nat} (h : cr_in ss x) : cr_in (ss ++ [n]) x := h.imp id (fun z => List.mem_append_left _ z)
theorem gd_ap {ss : List Nat} {n k : Nat} (h : k < ss.length + 1) : (ss ++ [n]).getD k 0 = if k = ss.length then n else ss.getD k 0 := by
  by_cases hk : k = ss.length
  · rw [if_pos hk, hk]; simp [List.getD]
  · rw [if_neg hk]
    have : k < ss.length := by omega
    simp [List.getD, List.getElem?_append_left this]
theorem cr_rel.addseg {β : Nat} {ss : List Nat} {e N : Nat → Nat} {ρ : jm} {pl : Nat → Int32} {σ : jm} {τ τ' : jj_T} {I I' : jj_I} {L L' : jj_L} {r r' : jj_R} (h : cr_rel β ss e N ρ pl σ τ I L r) (b : Int32) (hb : cr_in ss b) (h79 : nv (σ.1 0 36) + 1 ≤ 79) (hn : σ.1 0 36 = nI (nv (σ.1 0 36))) {q e' N' : Nat} (hq9 : β + 10000 ≤ q) (hqn : τ q = none)
    (hτ : ∀ x, x ≠ q → ¬ (β + 1000 + 10 * nv (σ.1 0 36) ≤ x ∧ x < β + 1000 + 10 * nv (σ.1 0 36) + 2) → τ' x = τ x) (hI : ∀ x, x ≠ 10 → x ≠ 16 → x ≠ q → ¬ (β + 1000 + 10 * nv (σ.1 0 36) ≤ x ∧ x < β + 1000 + 10 * nv (σ.1 0 36) + 2) → I' x = I x) (hI1 : ∀ j, j ≠ 7 → I' 10 j = I 10 j) (hI7 : I' 10 7 = σ.1 0 36 + 1)
    (hL : ∀ x, x ≠ q → ¬ (β + 1000 + 10 * nv (σ.1 0 36) ≤ x ∧ x < β + 1000 + 10 * nv (σ.1 0 36) + 2) → L' x = L x) (hr : ∀ x, x ≠ q → x ≠ 16 → (x = e 16 → x = 0) → ¬ (β + 1000 + 10 * nv (σ.1 0 36) ≤ x ∧ x < β + 1000 + 10 * nv (σ.1 0 36) + 2) → r' x = r x)
    (hl : cr_lst 16 e' N' (ss.length + 1) (fun k => if k = ss.length then (β + 1000 + 10 * nv (σ.1 0 36)) else β + 1000 + 10 * ss.getD k 0) τ' I' r') (he : e' = e 16 ∨ e' = q)
    (hS : cr_seg β (m_ns b σ) (ss ++ [nv (σ.1 0 36)]) (nv (σ.1 0 36)) (β + 1000 + 10 * nv (σ.1 0 36)) τ' I' L' r') : cr_rel β (ss ++ [nv (σ.1 0 36)]) (cr_up e 16 e') (cr_up N 16 N') ρ pl (m_ns b σ) τ' I' L' r' := by
  have B := h.e
  have hbe := B.be
  have h9 := h.bd
  have ho := B.ou 16 (by decide) (by decide)
  have hlo := B.lo 16 (by decide) (by decide)
  have hne := h.ne hqn
  have q0 : ∀ j, j ≠ 36 → (m_ns b σ).1 0 j = σ.1 0 j := fun j hj => m_ns_o (by omega)
  have qk : ∀ k j, k ≠ 0 → k ≠ 38 → k ≠ 39 → (m_ns b σ).1 k j = σ.1 k j := fun k j h1 h2 h3 => m_ns_o (by omega)
  have q2 : ∀ k j, (m_ns b σ).2 k j = σ.2 k j := fun k j => congrFun (congrFun m_ns_2 k) j
  have q36 : nv ((m_ns b σ).1 0 36) = nv (σ.1 0 36) + 1 := by rw [m_ns_36, sz_un hn (by omega)]
  have A : ∀ a n, (∀ x, a ≤ x → x < a + n → x ≠ 10 ∧ x ≠ 16 ∧ x ≠ q ∧ (x = e 16 → x = 0) ∧ ¬ (β + 1000 + 10 * nv (σ.1 0 36) ≤ x ∧ x < β + 1000 + 10 * nv (σ.1 0 36) + 2)) → cr_ag a n τ I L r τ' I' L' r' := fun a n hz x h1 h2 => by
    obtain ⟨z1, z2, z3, z4, z5⟩ := hz x h1 h2
    exact ⟨hτ x z3 z5, hI x z1 z2 z3 z5, hL x z3 z5, hr x z3 z2 z4 z5⟩
  have Ls : ∀ {i a n m : Nat} {f : Nat → Nat}, 13 ≤ i → i < 16 → a = e i → cr_lst i a n m f τ I r → cr_lst i a n m f τ' I' r' := fun {i a n m f} h1 h2 ha hl9 => by
    have o1 := B.ou i h1 (by omega)
    have o2 := B.lo i h1 (by omega)
    have o3 := hne i h1 (by omega)
    have o4 := B.di i 16 h1 (by omega) (by decide) (by decide) (by omega)
    subst ha
    exact hl9.cg (hτ i (by omega) (by omega)) (congrFun (hI i (by omega) (by omega) (by omega) (by omega)) 2) (hr i (by omega) (by omega) (by omega) (by omega)) (hτ _ o3 (by omega)) (hr _ o3 (by omega) (fun z => o4 z) (by omega))
  refine ⟨h.ro.cg (A 0 1 (by omega)) (A 20 22 (by omega)) (fun x hx => hτ x (by omega) (by omega)) (hr 10 (by omega) (by omega) (by omega) (by omega)) (hr 11 (by omega) (by omega) (by omega) (by omega)), ⟨?_, ?_, ?_, ?_, fun c hc => ?_⟩, ?_, ?_, ?_, ?_, fun b2 hb2 => ?_, fun b2 hb2 => ?_, fun u hu => ?_, fun s hs => ?_, ?_, ?_, ?_, h.mo.cg (A 300 42 (by omega)), fun u hu => ?_, ?_⟩
  · rw [hI1 4 (by decide), q0 10 (by decide)]; exact h.sc.ru
  · rw [hI7, m_ns_36]
  · rw [hI1 8 (by decide), q0 34 (by decide)]; exact h.sc.sa
  · rw [hI1 9 (by decide), q0 35 (by decide)]; exact h.sc.me
  · rw [hI 12 (by omega) (by omega) (by omega) (by omega), qk 9 c (by decide) (by decide) (by decide)]; exact h.sc.ki c hc
  · rw [q0 0 (by decide), cr_up_n (by decide), cr_up_n (by decide)]; exact Ls (by decide) (by decide) rfl h.lb
  · rw [q0 4 (by decide), cr_up_n (by decide), cr_up_n (by decide)]; exact Ls (by decide) (by decide) rfl h.lm
  · rw [q0 11 (by decide), cr_up_n (by decide), cr_up_n (by decide)]; exact Ls (by decide) (by decide) rfl h.lt
  · rw [cr_up_s, cr_up_s, List.length_append, List.length_singleton]
    refine hl.f fun k hk => ?_
    rw [gd_ap hk]
    by_cases z : k = ss.length
    · rw [if_pos z, if_pos z]
    · rw [if_neg z, if_neg z]
  · rw [q0 0 (by decide)] at hb2
    exact (h.bl b2 hb2).cg (A _ _ (by omega)) (qk 2 _ (by decide) (by decide) (by decide)) (fun i _ => ⟨qk 3 _ (by decide) (by decide) (by decide), qk 4 _ (by decide) (by decide) (by decide)⟩)
  · rw [q0 4 (by decide)] at hb2
    exact (h.mg b2 hb2).cg (A _ _ (by omega)) (qk 6 _ (by decide) (by decide) (by decide)) (fun i _ => ⟨qk 7 _ (by decide) (by decide) (by decide), qk 8 _ (by decide) (by decide) (by decide)⟩)
  · rw [q0 11 (by decide)] at hu
    refine (h.tk u hu).cg (A _ _ (by omega)) (fun k j hk => ⟨m_ns_o ?_, q2 k j⟩) rfl (h.po u hu)
    unfold cr_tcell at hk
    omega
  · rw [q36] at hs
    by_cases z : s = nv (σ.1 0 36)
    · subst z; exact hS
    · have c := (h.sg s (by omega)).cg (σ' := m_ns b σ) (A _ _ (by omega)) (fun _ => m_ns_o (by omega)) (fun c hc => m_ns_o (by omega)) (fun c _ => q2 _ _)
      refine ⟨c.k0, c.k1, c.l2, c.nu, fun m => c.be ?_, c.ha, c.va⟩
      rcases List.mem_append.mp m with m | m
      · exact m
      · exact absurd (List.mem_singleton.mp m) z
  · rw [q0 0 (by decide), q0 4 (by decide), q0 11 (by decide), q36]
    exact ⟨fun x h1 h2 i hi => (hτ _ (by omega) (by omega)).trans (h.fr.b x h1 h2 i hi), fun x h1 h2 i hi => (hτ _ (by omega) (by omega)).trans (h.fr.m x h1 h2 i hi), fun t h1 h2 i hi => (hτ _ (by omega) (by omega)).trans (h.fr.t t h1 h2 i hi), fun s h1 h2 i hi => (hτ _ (by omega) (by omega)).trans (h.fr.s s (by omega) h2 i hi)⟩
  · refine ⟨?_, fun s hs => ?_, fun s hs => ?_, fun u hu h4 => ?_, fun u hu h4 => ?_⟩
    · rw [List.pairwise_append]
      refine ⟨h.ss.so, List.pairwise_singleton _ _, fun x hx y hy => ?_⟩
      rw [List.mem_singleton.mp hy]
      exact h.ss.lt x hx
    · rw [q36]
      rcases List.mem_append.mp hs with m | m
      · have := h.ss.lt s m; omega
      · rw [List.mem_singleton.mp m]; omega
    · rcases List.mem_append.mp hs with m | m
      · have := h.ss.lt s m
        rw [m_ns_o (by omega)]
        exact (h.ss.un s m).ap
      · rw [List.mem_singleton.mp m, m_ns_38]; exact hb.ap
    · rw [q0 11 (by decide)] at hu
      rw [qk 15 u (by decide) (by decide) (by decide)] at h4
      rw [qk 22 u (by decide) (by decide) (by decide)]
      exact List.mem_append_left _ (h.ss.pr u hu h4)
    · rw [q0 11 (by decide)] at hu
      rw [qk 15 u (by decide) (by decide) (by decide)] at h4
      rw [qk 23 u (by decide) (by decide) (by decide)]
      exact (h.ss.ro u hu h4).ap
  · exact B.up (by decide) (he.imp id (fun z => ⟨by omega, fun j h1 h2 => by rw [z]; exact hne j h1 h2⟩))
  · rw [q0 11 (by decide)] at hu
    rw [qk 32 u (by decide) (by decide) (by decide), qk 34 u (by decide) (by decide) (by decide)]
    exact h.po u hu
  · rw [q0 0 (by decide), q0 4 (by decide), q0 11 (by decide), q36]; omega
theorem cr_rel.addtask {β : Nat} {ss : List Nat} {e N : Nat → Nat} {ρ : jm} {pl : Nat → Int32} {σ : jm} {pl' : Nat → Int32} {σ' : jm} {τ τ' : jj_T} {I I' : jj_I} {L L' : jj_L} {r r' : jj_R} (h : cr_rel β ss e N ρ pl σ τ I L r) (h40 : nv (σ.1 0 11) + 1 ≤ 40) (hn : σ.1 0 11 = nI (nv (σ.1 0 11))) {q e' N' : Nat} (hq9 : β + 10000 ≤ q) (hqn : τ q = none)
    (hτ : ∀ x, x ≠ q → ¬ (β + 5000 + 20 * nv (σ.1 0 11) ≤ x ∧ x < β + 5000 + 20 * nv (σ.1 0 11) + 11) → τ' x = τ x) (hI : ∀ x, x ≠ 15 → x ≠ q → ¬ (β + 5000 + 20 * nv (σ.1 0 11) ≤ x ∧ x < β + 5000 + 20 * nv (σ.1 0 11) + 11) → I' x = I x)
    (hL : ∀ x, x ≠ q → ¬ (β + 5000 + 20 * nv (σ.1 0 11) ≤ x ∧ x < β + 5000 + 20 * nv (σ.1 0 11) + 11) → L' x = L x) (hr : ∀ x, x ≠ q → x ≠ 15 → (x = e 15 → x = 0) → ¬ (β + 5000 + 20 * nv (σ.1 0 11) ≤ x ∧ x < β + 5000 + 20 * nv (σ.1 0 11) + 11) → r' x = r x)
    (hl : cr_lst 15 e' N' (nv (σ.1 0 11) + 1) (fun k => if k = nv (σ.1 0 11) then (β + 5000 + 20 * nv (σ.1 0 11)) else β + 5000 + 20 * k) τ' I' r') (he : e' = e 15 ∨ e' = q)
    (hσ : ∀ k j, ¬ (cr_tcell (nv (σ.1 0 11)) k j ∨ k = 0 ∧ j = 11) → σ'.1 k j = σ.1 k j ∧ σ'.2 k j = σ.2 k j) (h11 : σ'.1 0 11 = σ.1 0 11 + 1) (hp : ∀ u, u < nv (σ.1 0 11) → pl' u = pl u)
    (hT : cr_tsk β σ' pl' (nv (σ.1 0 11)) (β + 5000 + 20 * nv (σ.1 0 11)) τ' I' L' r') (hpr : nv (σ'.1 22 (nv (σ.1 0 11))) ∈ ss) (hro : cr_in ss (σ'.1 23 (nv (σ.1 0 11)))) (hpo : nv (σ'.1 32 (nv (σ.1 0 11))) ≤ 12 ∧ nv (σ'.1 34 (nv (σ.1 0 11))) ≤ 60) : cr_rel β ss (cr_up e 15 e') (cr_up N 15 N') ρ pl' σ' τ' I' L' r' := by
  have B := h.e
  have hbe := B.be
  have h9 := h.bd
  have ho := B.ou 15 (by decide) (by decide)
  have hlo := B.lo 15 (by decide) (by decide)
  have hne := h.ne hqn
  have q0 : ∀ j, j ≠ 11 → σ'.1 0 j = σ.1 0 j := fun j hj => (hσ 0 j (by unfold cr_tcell; omega)).1
  have qk : ∀ k j, (1 ≤ k ∧ k < 13) ∨ 35 ≤ k → σ'.1 k j = σ.1 k j ∧ σ'.2 k j = σ.2 k j := fun k j hk => hσ k j (by unfold cr_tcell; omega)
  have q11 : nv (σ'.1 0 11) = nv (σ.1 0 11) + 1 := by rw [h11, sz_un hn (by omega)]
  have A : ∀ a n, (∀ x, a ≤ x → x < a + n → x ≠ 15 ∧ x ≠ q ∧ (x = e 15 → x = 0) ∧ ¬ (β + 5000 + 20 * nv (σ.1 0 11) ≤ x ∧ x < β + 5000 + 20 * nv (σ.1 0 11) + 11)) → cr_ag a n τ I L r τ' I' L' r' := fun a n hz x h1 h2 => by
    obtain ⟨z2, z3, z4, z5⟩ := hz x h1 h2
    exact ⟨hτ x z3 z5, hI x z2 z3 z5, hL x z3 z5, hr x z3 z2 z4 z5⟩
  have Ls : ∀ {i a n m : Nat} {f : Nat → Nat}, 13 ≤ i → i ≤ 16 → i ≠ 15 → a = e i → cr_lst i a n m f τ I r → cr_lst i a n m f τ' I' r' := fun {i a n m f} h1 h2 h3 ha hl9 => by
    have o1 := B.ou i h1 (by omega)
    have o2 := B.lo i h1 (by omega)
    have o3 := hne i h1 (by omega)
    have o4 := B.di i 15 h1 (by omega) (by decide) (by decide) (by omega)
    subst ha
    exact hl9.cg (hτ i (by omega) (by omega)) (congrFun (hI i (by omega) (by omega) (by omega)) 2) (hr i (by omega) (by omega) (by omega) (by omega)) (hτ _ o3 (by omega)) (hr _ o3 (by omega) (fun z => o4 z) (by omega))
  refine ⟨h.ro.cg (A 0 1 (by omega)) (A 20 22 (by omega)) (fun x hx => hτ x (by omega) (by omega)) (hr 10 (by omega) (by omega) (by omega) (by omega)) (hr 11 (by omega) (by omega) (by omega) (by omega)), ⟨?_, ?_, ?_, ?_, fun c hc => ?_⟩, ?_, ?_, ?_, ?_, fun b2 hb2 => ?_, fun b2 hb2 => ?_, fun u hu => ?_, fun s hs => ?_, ?_, ?_, ?_, h.mo.cg (A 300 42 (by omega)), fun u hu => ?_, ?_⟩
  · rw [hI 10 (by omega) (by omega) (by omega), q0 10 (by decide)]; exact h.sc.ru
  · rw [hI 10 (by omega) (by omega) (by omega), q0 36 (by decide)]; exact h.sc.se
  · rw [hI 10 (by omega) (by omega) (by omega), q0 34 (by decide)]; exact h.sc.sa
  · rw [hI 10 (by omega) (by omega) (by omega), q0 35 (by decide)]; exact h.sc.me
  · rw [hI 12 (by omega) (by omega) (by omega), (qk 9 c (by omega)).1]; exact h.sc.ki c hc
  · rw [q0 0 (by decide), cr_up_n (by decide), cr_up_n (by decide)]; exact Ls (by decide) (by decide) (by decide) rfl h.lb
  · rw [q0 4 (by decide), cr_up_n (by decide), cr_up_n (by decide)]; exact Ls (by decide) (by decide) (by decide) rfl h.lm
  · rw [cr_up_s, cr_up_s, q11]
    refine hl.f fun k hk => ?_
    by_cases z : k = nv (σ.1 0 11)
    · rw [if_pos z, z]
    · rw [if_neg z]
  · rw [cr_up_n (by decide), cr_up_n (by decide)]; exact Ls (by decide) (by decide) (by decide) rfl h.ls
  · rw [q0 0 (by decide)] at hb2
    exact (h.bl b2 hb2).cg (A _ _ (by omega)) (qk 2 _ (by omega)).1 (fun i _ => ⟨(qk 3 _ (by omega)).1, (qk 4 _ (by omega)).1⟩)
  · rw [q0 4 (by decide)] at hb2
    exact (h.mg b2 hb2).cg (A _ _ (by omega)) (qk 6 _ (by omega)).1 (fun i _ => ⟨(qk 7 _ (by omega)).1, (qk 8 _ (by omega)).1⟩)
  · rw [q11] at hu
    by_cases z : u = nv (σ.1 0 11)
    · subst z; exact hT
    · refine (h.tk u (by omega)).cg (A _ _ (by omega)) (fun k j hk => hσ k j ?_) (hp u (by omega)) (h.po u (by omega))
      unfold cr_tcell at hk ⊢
      omega
  · rw [q0 36 (by decide)] at hs
    exact (h.sg s hs).cg (A _ _ (by omega)) (fun _ => (qk 38 _ (by omega)).1) (fun c hc => (qk 39 _ (by omega)).1) (fun c _ => (qk 40 _ (by omega)).2)
  · rw [q0 0 (by decide), q0 4 (by decide), q0 36 (by decide), q11]
    exact ⟨fun x h1 h2 i hi => (hτ _ (by omega) (by omega)).trans (h.fr.b x h1 h2 i hi), fun x h1 h2 i hi => (hτ _ (by omega) (by omega)).trans (h.fr.m x h1 h2 i hi), fun t h1 h2 i hi => (hτ _ (by omega) (by omega)).trans (h.fr.t t (by omega) h2 i hi), fun s h1 h2 i hi => (hτ _ (by omega) (by omega)).trans (h.fr.s s h1 h2 i hi)⟩
  · refine ⟨h.ss.so, fun s hs => by rw [q0 36 (by decide)]; exact h.ss.lt s hs, fun s hs => by rw [(qk 38 s (by omega)).1]; exact h.ss.un s hs, fun u hu h4 => ?_, fun u hu h4 => ?_⟩
    · rw [q11] at hu
      by_cases z : u = nv (σ.1 0 11)
      · subst z; exact hpr
      · have c15 := (hσ 15 u (by unfold cr_tcell; omega)).1
        have c22 := (hσ 22 u (by unfold cr_tcell; omega)).1
        rw [c15] at h4; rw [c22]; exact h.ss.pr u (by omega) h4
    · rw [q11] at hu
      by_cases z : u = nv (σ.1 0 11)
      · subst z; exact hro
      · have c15 := (hσ 15 u (by unfold cr_tcell; omega)).1
        have c23 := (hσ 23 u (by unfold cr_tcell; omega)).1
        rw [c15] at h4; rw [c23]; exact h.ss.ro u (by omega) h4
  · exact B.up (by decide) (he.imp id (fun z => ⟨by omega, fun j h1 h2 => by rw [z]; exact hne j h1 h2⟩))
  · rw [q11] at hu
    by_cases z : u = nv (σ.1 0 11)
    · subst z; exact hpo
    · have c32 := (hσ 32 u (by unfold cr_tcell; omega)).1
      have c34 := (hσ 34 u (by unfold cr_tcell; omega)).1
      rw [c32, c34]; exact h.po u (by omega)
  · rw [q0 0 (by decide), q0 4 (by decide), q0 36 (by decide), q11]; omega
