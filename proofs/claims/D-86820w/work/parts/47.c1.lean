set_option maxRecDepth 100000
/-- two memories agree at a run of ids -/
def cr_ag (a n : Nat) (τ : jj_T) (I : jj_I) (L : jj_L) (r : jj_R) (τ' : jj_T) (I' : jj_I) (L' : jj_L) (r' : jj_R) : Prop := ∀ b, a ≤ b → b < a + n → τ' b = τ b ∧ I' b = I b ∧ L' b = L b ∧ r' b = r b
def cr_tcell (t k j : Nat) : Prop := ((13 ≤ k ∧ k ≤ 27 ∨ k = 32 ∨ k = 34) ∧ j = t) ∨ ((k = 28 ∨ k = 29) ∧ j / 8 = t) ∨ ((k = 30 ∨ k = 31) ∧ j / 12 = t) ∨ (k = 33 ∧ j / 60 = t)
/-- the Model's memories differ in one task alone -/
def cr_at (t : Nat) (σ σ' : jm) : Prop := ∀ k j, ¬ cr_tcell t k j → σ'.1 k j = σ.1 k j ∧ σ'.2 k j = σ.2 k j
theorem cr_at.rf {t : Nat} {σ : jm} : cr_at t σ σ := fun _ _ _ => ⟨rfl, rfl⟩
theorem cr_at.u {t : Nat} {σ σ' : jm} (h : cr_at t σ σ') {k j : Nat} {v : Int32} (hc : cr_tcell t k j) : cr_at t σ (m_u σ' k j v) := fun a b hn => ⟨(jj_un (by
  by_cases z : a = k
  · refine Or.inr fun y => hn ?_
    rw [z, y]
    exact hc
  · exact Or.inl z)).trans (h a b hn).1, (h a b hn).2⟩
theorem cr_at.v {t : Nat} {σ σ' : jm} (h : cr_at t σ σ') {k j : Nat} {v : Int64} (hc : cr_tcell t k j) : cr_at t σ (m_v σ' k j v) := fun a b hn => ⟨(h a b hn).1, (jj_un (by
  by_cases z : a = k
  · refine Or.inr fun y => hn ?_
    rw [z, y]
    exact hc
  · exact Or.inl z)).trans (h a b hn).2⟩
theorem cr_sb.cg {σ σ' : jm} {s : Nat} : ∀ n, (∀ c, c < n → σ'.1 39 (16 * s + c) = σ.1 39 (16 * s + c)) → cr_sb σ' s n = cr_sb σ s n := by
  intro n
  induction n with
  | zero => intro _; rfl
  | succ n ih =>
    intro h
    unfold cr_sb
    rw [ih (fun c hc => h c (by omega)), h n (by omega)]
theorem cr_seg.cg {β : Nat} {σ σ' : jm} {ss : List Nat} {s S : Nat} {τ τ' : jj_T} {I I' : jj_I} {L L' : jj_L} {r r' : jj_R} (h : cr_seg β σ ss s S τ I L r) (g : cr_ag S 2 τ I L r τ' I' L' r') (h38 : s ∈ ss → σ'.1 38 s = σ.1 38 s) (h39 : ∀ c, c < 16 → σ'.1 39 (16 * s + c) = σ.1 39 (16 * s + c)) (h40 : ∀ c, c < 16 → σ'.2 40 (16 * s + c) = σ.2 40 (16 * s + c)) : cr_seg β σ' ss s S τ' I' L' r' := by
  have g0 := g S (by omega) (by omega)
  have g1 := g (S + 1) (by omega) (by omega)
  refine ⟨g0.1.trans h.k0, g1.1.trans h.k1, (congrFun g0.2.2.2 2).trans h.l2, (congrFun g0.2.1 0).trans h.nu, fun hs => ?_, ?_, fun c hc hv => ?_⟩
  · rw [h38 hs]; exact (congrFun g0.2.2.2 1).trans (h.be hs)
  · rw [cr_sb.cg 16 h39]; exact (congrFun g0.2.1 3).trans h.ha
  · rw [h39 c hc] at hv
    rw [h40 c hc]; exact (congrFun g1.2.2.1 c).trans (h.va c hc hv)
theorem cr_blk.cg {σ σ' : jm} {b B : Nat} {τ τ' : jj_T} {I I' : jj_I} {L L' : jj_L} {r r' : jj_R} (h : cr_blk σ b B τ I r) (g : cr_ag B 3 τ I L r τ' I' L' r') (h1 : σ'.1 2 b = σ.1 2 b) (h2 : ∀ i, i < nv (σ.1 2 b) → σ'.1 3 (40 * b + i) = σ.1 3 (40 * b + i) ∧ σ'.1 4 (40 * b + i) = σ.1 4 (40 * b + i)) : cr_blk σ' b B τ' I' r' := by
  have g0 := g B (by omega) (by omega)
  have g1 := g (B + 1) (by omega) (by omega)
  have g2 := g (B + 2) (by omega) (by omega)
  refine ⟨g0.1.trans h.k0, g1.1.trans h.k1, g2.1.trans h.k2, (congrFun g0.2.2.2 0).trans h.l0, (congrFun g0.2.2.2 1).trans h.l1, ?_, fun i hi => ?_⟩
  · rw [h1]; exact (congrFun g0.2.1 2).trans h.sz
  · rw [h1] at hi
    rw [(h2 i hi).1, (h2 i hi).2]; exact ⟨(congrFun g1.2.1 i).trans (h.co i hi).1, (congrFun g2.2.1 i).trans (h.co i hi).2⟩
theorem cr_mrg.cg {σ σ' : jm} {b B : Nat} {τ τ' : jj_T} {I I' : jj_I} {L L' : jj_L} {r r' : jj_R} (h : cr_mrg σ b B τ I r) (g : cr_ag B 4 τ I L r τ' I' L' r') (h1 : σ'.1 6 b = σ.1 6 b) (h2 : ∀ i, i < nv (σ.1 6 b) → σ'.1 7 (12 * b + i) = σ.1 7 (12 * b + i) ∧ σ'.1 8 (12 * b + i) = σ.1 8 (12 * b + i)) : cr_mrg σ' b B τ' I' r' := by
  have g0 := g B (by omega) (by omega)
  have g1 := g (B + 1) (by omega) (by omega)
  have g2 := g (B + 2) (by omega) (by omega)
  have g3 := g (B + 3) (by omega) (by omega)
  refine ⟨g0.1.trans h.k0, g1.1.trans h.k1, g2.1.trans h.k2, g3.1.trans h.k3, (congrFun g0.2.2.2 0).trans h.l0, (congrFun g0.2.2.2 1).trans h.l1, (congrFun g0.2.2.2 3).trans h.l3, ?_, fun i hi => ?_⟩
  · rw [h1]; exact (congrFun g0.2.1 2).trans h.sz
  · rw [h1] at hi
    rw [(h2 i hi).1, (h2 i hi).2]; exact ⟨(congrFun g1.2.1 i).trans (h.co i hi).1, (congrFun g2.2.1 i).trans (h.co i hi).2⟩
theorem cr_tsk.cg {β : Nat} {σ σ' : jm} {pl pl' : Nat → Int32} {t T : Nat} {τ τ' : jj_T} {I I' : jj_I} {L L' : jj_L} {r r' : jj_R} (h : cr_tsk β σ pl t T τ I L r) (g : cr_ag T 11 τ I L r τ' I' L' r') (hσ : ∀ k j, cr_tcell t k j → σ'.1 k j = σ.1 k j ∧ σ'.2 k j = σ.2 k j) (hp : pl' t = pl t) (hn : nv (σ.1 32 t) ≤ 12 ∧ nv (σ.1 34 t) ≤ 60) : cr_tsk β σ' pl' t T τ' I' L' r' := by
  have g0 := g T (by omega) (by omega)
  have g1 := g (T + 1) (by omega) (by omega)
  have g2 := g (T + 2) (by omega) (by omega)
  have g3 := g (T + 3) (by omega) (by omega)
  have g4 := g (T + 4) (by omega) (by omega)
  have g5 := g (T + 5) (by omega) (by omega)
  have g6 := g (T + 6) (by omega) (by omega)
  have g7 := g (T + 7) (by omega) (by omega)
  have g8 := g (T + 8) (by omega) (by omega)
  have g9 := g (T + 9) (by omega) (by omega)
  have g10 := g (T + 10) (by omega) (by omega)
  have a : ∀ k, 13 ≤ k ∧ k ≤ 27 ∨ k = 32 ∨ k = 34 → σ'.1 k t = σ.1 k t ∧ σ'.2 k t = σ.2 k t := fun k hk => hσ k t (Or.inl ⟨hk, rfl⟩)
  have a8 : ∀ k i, i < 8 → k = 28 ∨ k = 29 → σ'.1 k (8 * t + i) = σ.1 k (8 * t + i) ∧ σ'.2 k (8 * t + i) = σ.2 k (8 * t + i) := fun k i hi hk => hσ k _ (Or.inr (Or.inl ⟨hk, by omega⟩))
  have a12 : ∀ k i, i < 12 → k = 30 ∨ k = 31 → σ'.1 k (12 * t + i) = σ.1 k (12 * t + i) ∧ σ'.2 k (12 * t + i) = σ.2 k (12 * t + i) := fun k i hi hk => hσ k _ (Or.inr (Or.inr (Or.inl ⟨hk, by omega⟩)))
  have a60 : ∀ i, i < 60 → σ'.2 33 (60 * t + i) = σ.2 33 (60 * t + i) := fun i hi => (hσ 33 _ (Or.inr (Or.inr (Or.inr ⟨rfl, by omega⟩)))).2
  refine ⟨⟨g0.1.trans h.k.k0, g1.1.trans h.k.k1, g2.1.trans h.k.k2, g3.1.trans h.k.k3, g4.1.trans h.k.k4, g5.1.trans h.k.k5, g6.1.trans h.k.k6, g7.1.trans h.k.k7, g8.1.trans h.k.k8, g9.1.trans h.k.k9, g10.1.trans h.k.k10⟩, ⟨(congrFun g0.2.2.2 12).trans h.l.re, (congrFun g0.2.2.2 14).trans h.l.sl, (congrFun g0.2.2.2 15).trans h.l.pi, (congrFun g0.2.2.2 16).trans h.l.ou, (congrFun g1.2.2.2 0).trans h.l.r0, (congrFun g1.2.2.2 1).trans h.l.r1, (congrFun g4.2.2.2 0).trans h.l.s0, (congrFun g4.2.2.2 1).trans h.l.s1, (congrFun g7.2.2.2 0).trans h.l.p0, (congrFun g7.2.2.2 1).trans h.l.p1⟩, ⟨(congrFun g0.2.1 0).trans h.f.nu, by rw [(a 20 (by decide)).1]; exact (congrFun g0.2.2.2 1).trans h.f.pa, by rw [(a 21 (by decide)).1]; exact (congrFun g0.2.1 2).trans h.f.od, by rw [(a 19 (by decide)).1]; exact (congrFun g0.2.1 3).trans h.f.de, by rw [(a 13 (by decide)).1]; exact (congrFun g0.2.1 4).trans h.f.bn, by rw [(a 13 (by decide)).1]; exact (congrFun g0.2.2.2 5).trans h.f.bl, by rw [(a 23 (by decide)).1]; exact (congrFun g0.2.2.2 19).trans h.f.ro⟩, ⟨by rw [hp]; exact (congrFun g0.2.1 6).trans h.v.pl, by rw [(a 17 (by decide)).1]; exact (congrFun g0.2.1 7).trans h.v.sp, by rw [(a 18 (by decide)).1]; exact (congrFun g0.2.1 8).trans h.v.fk, by rw [(a 16 (by decide)).1]; exact (congrFun g0.2.1 9).trans h.v.wy, by rw [(a 15 (by decide)).1, (congrFun g0.2.2.2 10), (congrFun g0.2.1 11)]; exact h.v.st, by rw [(a 24 (by decide)).2]; exact (congrFun g0.2.2.1 13).trans h.v.mk, by rw [(a 34 (by decide)).1]; exact (congrFun g0.2.1 17).trans h.v.os, by rw [(a 22 (by decide)).1]; exact (congrFun g0.2.2.2 18).trans h.v.pr, by rw [(a 32 (by decide)).1]; exact (congrFun g7.2.1 2).trans h.v.ps⟩, ?_⟩
  refine ⟨?_, ?_, fun k hk => ?_, fun k hk => ?_, fun k hk => ?_, fun k hk => ?_, fun k hk => ?_⟩
  · rw [(a 27 (by decide)).1, (a 26 (by decide)).2]; exact (congrFun g2.2.2.1 0).trans h.c.rn
  · rw [(a 27 (by decide)).1, (a 26 (by decide)).2]; exact (congrFun g3.2.2.2 0).trans h.c.rh
  · rw [(a8 29 k hk (by decide)).1, (a8 28 k hk (by decide)).2]; exact (congrFun g5.2.2.1 k).trans (h.c.sn k hk)
  · rw [(a8 29 k hk (by decide)).1, (a8 28 k hk (by decide)).2]; exact (congrFun g6.2.2.2 k).trans (h.c.sh k hk)
  · rw [(a 32 (by decide)).1] at hk
    have hk9 := hn.1
    rw [(a12 31 k (by omega) (by decide)).1, (a12 30 k (by omega) (by decide)).2]; exact (congrFun g8.2.2.1 k).trans (h.c.pn k hk)
  · rw [(a 32 (by decide)).1] at hk
    have hk9 := hn.1
    rw [(a12 31 k (by omega) (by decide)).1, (a12 30 k (by omega) (by decide)).2]; exact (congrFun g9.2.2.2 k).trans (h.c.ph k hk)
  · rw [(a 34 (by decide)).1] at hk
    have hk9 := hn.2
    rw [a60 k (by omega)]; exact (congrFun g10.2.2.1 k).trans (h.c.on k hk)
theorem cr_lst.cg {th e N n : Nat} {f : Nat → Nat} {τ τ' : jj_T} {I I' : jj_I} {r r' : jj_R} (h : cr_lst th e N n f τ I r) (h1 : τ' th = τ th) (h2 : I' th 2 = I th 2) (h3 : r' th = r th) (h4 : τ' e = τ e) (h5 : r' e = r e) : cr_lst th e N n f τ' I' r' :=
  ⟨h1.trans h.k0, (congrFun h3 1).trans h.l1, h2.trans h.sz, h4.trans h.ke, h.le, h.lt, h.z0, fun i hi => (congrFun h5 i).trans (h.el i hi), fun i hi => (congrFun h5 i).trans (h.no i hi)⟩
theorem cr_root.cg {τ τ' : jj_T} {I I' : jj_I} {L L' : jj_L} {r r' : jj_R} (h : cr_root τ I r) (g : cr_ag 0 1 τ I L r τ' I' L' r') (g' : cr_ag 20 22 τ I L r τ' I' L' r') (t : ∀ b, b < 50 → τ' b = τ b) (r1 : r' 10 = r 10) (r2 : r' 11 = r 11) : cr_root τ' I' r' := by
  refine ⟨(t 10 (by omega)).trans h.k0, (t 11 (by omega)).trans h.k1, (t 12 (by omega)).trans h.k2, (congrFun r1 0).trans h.l0, (congrFun r1 1).trans h.l1, (congrFun r1 2).trans h.l2, (congrFun r1 3).trans h.l3, (congrFun r1 5).trans h.l5, (congrFun r1 6).trans h.l6, fun j hj => (congrFun r2 j).trans (h.dl j hj), fun j hj => ?_, fun i => (congrFun (g 0 (by omega) (by omega)).2.2.2 i).trans (h.z i)⟩
  have d := h.dd j hj
  have b := g' (20 + j) (by omega) (by omega)
  exact ⟨b.1.trans d.k0, (congrFun b.2.1 _).trans d.tk, (congrFun b.2.2.2 2).trans d.th⟩
theorem cr_sc.cg {σ σ' : jm} {I I' : jj_I} (h : cr_sc σ I) (g1 : I' 10 = I 10) (g2 : I' 12 = I 12) (h0 : ∀ j, σ'.1 0 j = σ.1 0 j) (h9 : ∀ j, σ'.1 9 j = σ.1 9 j) : cr_sc σ' I' :=
  ⟨by rw [g1, h0]; exact h.ru, by rw [g1, h0]; exact h.se, by rw [g1, h0]; exact h.sa, by rw [g1, h0]; exact h.me, fun c hc => by rw [g2, h9]; exact h.ki c hc⟩
theorem cr_mo.cg {ρ : jm} {τ τ' : jj_T} {I I' : jj_I} {L L' : jj_L} {r r' : jj_R} (h : cr_mo ρ τ I L r) (g : cr_ag 300 42 τ I L r τ' I' L' r') : cr_mo ρ τ' I' L' r' :=
  ⟨fun k hk => (g (300 + k) (by omega) (by omega)).1.trans (h.k k hk), fun k hk j => (congrFun (g (300 + k) (by omega) (by omega)).2.1 j).trans (h.i k hk j), fun k hk j => (congrFun (g (300 + k) (by omega) (by omega)).2.2.1 j).trans (h.l k hk j), fun k hk j => (congrFun (g (300 + k) (by omega) (by omega)).2.2.2 j).trans (h.r k hk j)⟩
theorem cr_rel.tsk {β : Nat} {ss : List Nat} {e N : Nat → Nat} {ρ : jm} {pl pl' : Nat → Int32} {σ σ' : jm} {τ : jj_T} {I I' : jj_I} {L L' : jj_L} {r r' : jj_R} (h : cr_rel β ss e N ρ pl σ τ I L r) {t : Nat} (ht : t < nv (σ.1 0 11)) (hg : ∀ b, ¬ (β + 5000 + 20 * t ≤ b ∧ b < β + 5000 + 20 * t + 11) → I' b = I b ∧ L' b = L b ∧ r' b = r b) (hσ : cr_at t σ σ') (hp : ∀ u, u ≠ t → pl' u = pl u) (hT : cr_tsk β σ' pl' t (β + 5000 + 20 * t) τ I' L' r') (hs : ¬ σ'.1 15 t = 4 → ¬ σ.1 15 t = 4 ∧ nv (σ'.1 22 t) ∈ ss ∧ σ'.1 23 t = σ.1 23 t) (hn : nv (σ'.1 32 t) ≤ 12 ∧ nv (σ'.1 34 t) ≤ 60) : cr_rel β ss e N ρ pl' σ' τ I' L' r' := by
  have A : ∀ a n, (∀ b, a ≤ b → b < a + n → ¬ (β + 5000 + 20 * t ≤ b ∧ b < β + 5000 + 20 * t + 11)) → cr_ag a n τ I L r τ I' L' r' := fun a n hz b h1 h2 => ⟨rfl, hg b (hz b h1 h2)⟩
  have B := h.e
  have hb := B.be
  have hT9 := h.bd
  have q0 : ∀ j, σ'.1 0 j = σ.1 0 j := fun j => (hσ 0 j (by unfold cr_tcell; omega)).1
  have qk : ∀ k j, k < 13 ∨ 35 ≤ k → σ'.1 k j = σ.1 k j ∧ σ'.2 k j = σ.2 k j := fun k j hk => hσ k j (by unfold cr_tcell; omega)
  have E : ∀ i, 13 ≤ i → i ≤ 16 → r' (e i) = r (e i) := fun i h1 h2 => (hg (e i) (by have := B.ou i h1 h2; omega)).2.2
  have F : ∀ i, 13 ≤ i → i ≤ 16 → I' i = I i ∧ r' i = r i := fun i h1 h2 => ⟨(hg i (by omega)).1, (hg i (by omega)).2.2⟩
  refine ⟨h.ro.cg (A 0 1 (by omega)) (A 20 22 (by omega)) (fun _ _ => rfl) (hg 10 (by omega)).2.2 (hg 11 (by omega)).2.2, h.sc.cg (hg 10 (by omega)).1 (hg 12 (by omega)).1 q0 (fun j => (qk 9 j (by omega)).1), ?_, ?_, ?_, ?_, fun b hb2 => ?_, fun b hb2 => ?_, fun u hu => ?_, fun s hs2 => ?_, ?_, ?_, B, h.mo.cg (A 300 42 (by omega)), fun u hu => ?_, ?_⟩
  · rw [q0]; exact h.lb.cg rfl (congrFun (F 13 (by omega) (by omega)).1 2) (F 13 (by omega) (by omega)).2 rfl (E 13 (by omega) (by omega))
  · rw [q0]; exact h.lm.cg rfl (congrFun (F 14 (by omega) (by omega)).1 2) (F 14 (by omega) (by omega)).2 rfl (E 14 (by omega) (by omega))
  · rw [q0]; exact h.lt.cg rfl (congrFun (F 15 (by omega) (by omega)).1 2) (F 15 (by omega) (by omega)).2 rfl (E 15 (by omega) (by omega))
  · exact h.ls.cg rfl (congrFun (F 16 (by omega) (by omega)).1 2) (F 16 (by omega) (by omega)).2 rfl (E 16 (by omega) (by omega))
  · rw [q0] at hb2
    exact (h.bl b hb2).cg (A _ _ (by omega)) (qk 2 _ (by omega)).1 (fun i _ => ⟨(qk 3 _ (by omega)).1, (qk 4 _ (by omega)).1⟩)
  · rw [q0] at hb2
    exact (h.mg b hb2).cg (A _ _ (by omega)) (qk 6 _ (by omega)).1 (fun i _ => ⟨(qk 7 _ (by omega)).1, (qk 8 _ (by omega)).1⟩)
  · rw [q0] at hu
    by_cases hut : u = t
    · subst hut; exact hT
    · refine (h.tk u hu).cg (A _ _ (by omega)) (fun k j hk => hσ k j fun z => hut ?_) (hp u hut) (h.po u hu)
      unfold cr_tcell at hk z
      omega
  · rw [q0] at hs2
    exact (h.sg s hs2).cg (A _ _ (by omega)) (fun _ => (qk 38 _ (by omega)).1) (fun c _ => (qk 39 _ (by omega)).1) (fun c _ => (qk 40 _ (by omega)).2)
  · rw [q0, q0, q0, q0]; exact h.fr
  · refine ⟨h.ss.so, fun s hs2 => by rw [q0]; exact h.ss.lt s hs2, fun s hs2 => by rw [(qk 38 s (by omega)).1]; exact h.ss.un s hs2, fun u hu h4 => ?_, fun u hu h4 => ?_⟩
    · rw [q0] at hu
      by_cases hut : u = t
      · subst hut; exact (hs h4).2.1
      · have c15 := (hσ 15 u (by unfold cr_tcell; omega)).1
        have c22 := (hσ 22 u (by unfold cr_tcell; omega)).1
        rw [c15] at h4; rw [c22]; exact h.ss.pr u hu h4
    · rw [q0] at hu
      by_cases hut : u = t
      · subst hut; rw [(hs h4).2.2]; exact h.ss.ro u hu (hs h4).1
      · have c15 := (hσ 15 u (by unfold cr_tcell; omega)).1
        have c23 := (hσ 23 u (by unfold cr_tcell; omega)).1
        rw [c15] at h4; rw [c23]; exact h.ss.ro u hu h4
  · rw [q0] at hu
    by_cases hut : u = t
    · subst hut; exact hn
    · have c32 := (hσ 32 u (by unfold cr_tcell; omega)).1
      have c34 := (hσ 34 u (by unfold cr_tcell; omega)).1
      rw [c32, c34]; exact h.po u hu
  · rw [q0, q0, q0, q0]; exact h.bd
