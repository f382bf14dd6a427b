set_option maxRecDepth 100000
def cr_tr (β : Nat) (x : Int32) : Option Nat := if x = -4 then none else some (β + 5000 + 20 * nv x)
def cr_sr (β : Nat) (x : Int32) : Option Nat := if x = -4 then none else some (β + 1000 + 10 * nv x)
def cr_hr (β : Nat) (h : Int32) (v : Int64) : Option Nat := if h = 0 then none else some (β + 5000 + 20 * nv v.toInt32)
def cr_nu (h : Int32) (v : Int64) : Int64 := if h = 0 then v else 0
def cr_sb (σ : jm) (s : Nat) : Nat → Nat
  | 0 => 0
  | n + 1 => cr_sb σ s n + (if σ.1 39 (16 * s + n) = 0 then 0 else 2 ^ n)
/-- a state: its field, whether it is gone -/
def cr_st (x : Int32) (q : Option Nat) (g : Int32) : Prop := (x = 0 ∧ q = some 1 ∧ g = 0) ∨ (x = 2 ∧ q = some 2 ∧ g = 0) ∨ (x = 3 ∧ q = some 3 ∧ g = 0) ∨ (x = 4 ∧ (q = some 2 ∨ q = some 3) ∧ g = 1)
def cr_ci (j : Nat) : Nat := if j < 5 then j + 2 else j + 3
def cr_ts (j : Nat) : Nat := if 5 ≤ j ∧ j < 12 then 1 else 0
def cr_seg (β : Nat) (σ : jm) (ss : List Nat) (s S : Nat) (τ : jj_T) (I : jj_I) (L : jj_L) (r : jj_R) : Prop := (τ S = some (.inl 28)) ∧ (τ (S + 1) = some (.inr (2, 16))) ∧ (r S 2 = some (S + 1)) ∧ (I S 0 = nI s) ∧ (s ∈ ss → r S 1 = cr_sr β (σ.1 38 s)) ∧ (I S 3 = nI (cr_sb σ s 16)) ∧ (∀ c, c < 16 → ¬ σ.1 39 (16 * s + c) = 0 → L (S + 1) c = σ.2 40 (16 * s + c))
theorem cr_seg.k0 {β : Nat} {σ : jm} {ss : List Nat} {s S : Nat} {τ : jj_T} {I : jj_I} {L : jj_L} {r : jj_R} (h : cr_seg β σ ss s S τ I L r) : τ S = some (.inl 28) := h.1
theorem cr_seg.k1 {β : Nat} {σ : jm} {ss : List Nat} {s S : Nat} {τ : jj_T} {I : jj_I} {L : jj_L} {r : jj_R} (h : cr_seg β σ ss s S τ I L r) : τ (S + 1) = some (.inr (2, 16)) := h.2.1
theorem cr_seg.l2 {β : Nat} {σ : jm} {ss : List Nat} {s S : Nat} {τ : jj_T} {I : jj_I} {L : jj_L} {r : jj_R} (h : cr_seg β σ ss s S τ I L r) : r S 2 = some (S + 1) := h.2.2.1
theorem cr_seg.nu {β : Nat} {σ : jm} {ss : List Nat} {s S : Nat} {τ : jj_T} {I : jj_I} {L : jj_L} {r : jj_R} (h : cr_seg β σ ss s S τ I L r) : I S 0 = nI s := h.2.2.2.1
theorem cr_seg.be {β : Nat} {σ : jm} {ss : List Nat} {s S : Nat} {τ : jj_T} {I : jj_I} {L : jj_L} {r : jj_R} (h : cr_seg β σ ss s S τ I L r) : s ∈ ss → r S 1 = cr_sr β (σ.1 38 s) := h.2.2.2.2.1
theorem cr_seg.ha {β : Nat} {σ : jm} {ss : List Nat} {s S : Nat} {τ : jj_T} {I : jj_I} {L : jj_L} {r : jj_R} (h : cr_seg β σ ss s S τ I L r) : I S 3 = nI (cr_sb σ s 16) := h.2.2.2.2.2.1
theorem cr_seg.va {β : Nat} {σ : jm} {ss : List Nat} {s S : Nat} {τ : jj_T} {I : jj_I} {L : jj_L} {r : jj_R} (h : cr_seg β σ ss s S τ I L r) : ∀ c, c < 16 → ¬ σ.1 39 (16 * s + c) = 0 → L (S + 1) c = σ.2 40 (16 * s + c) := h.2.2.2.2.2.2
def cr_blk (σ : jm) (b B : Nat) (τ : jj_T) (I : jj_I) (r : jj_R) : Prop := (τ B = some (.inl 26)) ∧ (τ (B + 1) = some (.inr (0, 40))) ∧ (τ (B + 2) = some (.inr (0, 40))) ∧ (r B 0 = some (B + 1)) ∧ (r B 1 = some (B + 2)) ∧ (I B 2 = σ.1 2 b) ∧ (∀ i, i < nv (σ.1 2 b) → I (B + 1) i = σ.1 3 (40 * b + i) ∧ I (B + 2) i = σ.1 4 (40 * b + i))
theorem cr_blk.k0 {σ : jm} {b B : Nat} {τ : jj_T} {I : jj_I} {r : jj_R} (h : cr_blk σ b B τ I r) : τ B = some (.inl 26) := h.1
theorem cr_blk.k1 {σ : jm} {b B : Nat} {τ : jj_T} {I : jj_I} {r : jj_R} (h : cr_blk σ b B τ I r) : τ (B + 1) = some (.inr (0, 40)) := h.2.1
theorem cr_blk.k2 {σ : jm} {b B : Nat} {τ : jj_T} {I : jj_I} {r : jj_R} (h : cr_blk σ b B τ I r) : τ (B + 2) = some (.inr (0, 40)) := h.2.2.1
theorem cr_blk.l0 {σ : jm} {b B : Nat} {τ : jj_T} {I : jj_I} {r : jj_R} (h : cr_blk σ b B τ I r) : r B 0 = some (B + 1) := h.2.2.2.1
theorem cr_blk.l1 {σ : jm} {b B : Nat} {τ : jj_T} {I : jj_I} {r : jj_R} (h : cr_blk σ b B τ I r) : r B 1 = some (B + 2) := h.2.2.2.2.1
theorem cr_blk.sz {σ : jm} {b B : Nat} {τ : jj_T} {I : jj_I} {r : jj_R} (h : cr_blk σ b B τ I r) : I B 2 = σ.1 2 b := h.2.2.2.2.2.1
theorem cr_blk.co {σ : jm} {b B : Nat} {τ : jj_T} {I : jj_I} {r : jj_R} (h : cr_blk σ b B τ I r) : ∀ i, i < nv (σ.1 2 b) → I (B + 1) i = σ.1 3 (40 * b + i) ∧ I (B + 2) i = σ.1 4 (40 * b + i) := h.2.2.2.2.2.2
def cr_mrg (σ : jm) (b B : Nat) (τ : jj_T) (I : jj_I) (r : jj_R) : Prop := (τ B = some (.inl 27)) ∧ (τ (B + 1) = some (.inr (0, 12))) ∧ (τ (B + 2) = some (.inr (0, 12))) ∧ (τ (B + 3) = some (.inr (2, 13))) ∧ (r B 0 = some (B + 1)) ∧ (r B 1 = some (B + 2)) ∧ (r B 3 = some (B + 3)) ∧ (I B 2 = σ.1 6 b) ∧ (∀ i, i < nv (σ.1 6 b) → I (B + 1) i = σ.1 7 (12 * b + i) ∧ I (B + 2) i = σ.1 8 (12 * b + i))
theorem cr_mrg.k0 {σ : jm} {b B : Nat} {τ : jj_T} {I : jj_I} {r : jj_R} (h : cr_mrg σ b B τ I r) : τ B = some (.inl 27) := h.1
theorem cr_mrg.k1 {σ : jm} {b B : Nat} {τ : jj_T} {I : jj_I} {r : jj_R} (h : cr_mrg σ b B τ I r) : τ (B + 1) = some (.inr (0, 12)) := h.2.1
theorem cr_mrg.k2 {σ : jm} {b B : Nat} {τ : jj_T} {I : jj_I} {r : jj_R} (h : cr_mrg σ b B τ I r) : τ (B + 2) = some (.inr (0, 12)) := h.2.2.1
theorem cr_mrg.k3 {σ : jm} {b B : Nat} {τ : jj_T} {I : jj_I} {r : jj_R} (h : cr_mrg σ b B τ I r) : τ (B + 3) = some (.inr (2, 13)) := h.2.2.2.1
theorem cr_mrg.l0 {σ : jm} {b B : Nat} {τ : jj_T} {I : jj_I} {r : jj_R} (h : cr_mrg σ b B τ I r) : r B 0 = some (B + 1) := h.2.2.2.2.1
theorem cr_mrg.l1 {σ : jm} {b B : Nat} {τ : jj_T} {I : jj_I} {r : jj_R} (h : cr_mrg σ b B τ I r) : r B 1 = some (B + 2) := h.2.2.2.2.2.1
theorem cr_mrg.l3 {σ : jm} {b B : Nat} {τ : jj_T} {I : jj_I} {r : jj_R} (h : cr_mrg σ b B τ I r) : r B 3 = some (B + 3) := h.2.2.2.2.2.2.1
theorem cr_mrg.sz {σ : jm} {b B : Nat} {τ : jj_T} {I : jj_I} {r : jj_R} (h : cr_mrg σ b B τ I r) : I B 2 = σ.1 6 b := h.2.2.2.2.2.2.2.1
theorem cr_mrg.co {σ : jm} {b B : Nat} {τ : jj_T} {I : jj_I} {r : jj_R} (h : cr_mrg σ b B τ I r) : ∀ i, i < nv (σ.1 6 b) → I (B + 1) i = σ.1 7 (12 * b + i) ∧ I (B + 2) i = σ.1 8 (12 * b + i) := h.2.2.2.2.2.2.2.2
/-- a task: the kinds -/
def cr_tk (T : Nat) (τ : jj_T) : Prop := (τ T = some (.inl 29)) ∧ (τ (T + 1) = some (.inl 30)) ∧ (τ (T + 2) = some (.inr (2, 1))) ∧ (τ (T + 3) = some (.inr (4, 1))) ∧ (τ (T + 4) = some (.inl 30)) ∧ (τ (T + 5) = some (.inr (2, 8))) ∧ (τ (T + 6) = some (.inr (4, 8))) ∧ (τ (T + 7) = some (.inl 31)) ∧ (τ (T + 8) = some (.inr (2, 12))) ∧ (τ (T + 9) = some (.inr (4, 12))) ∧ (τ (T + 10) = some (.inr (2, 60)))
theorem cr_tk.k0 {T : Nat} {τ : jj_T} (h : cr_tk T τ) : τ T = some (.inl 29) := h.1
theorem cr_tk.k1 {T : Nat} {τ : jj_T} (h : cr_tk T τ) : τ (T + 1) = some (.inl 30) := h.2.1
theorem cr_tk.k2 {T : Nat} {τ : jj_T} (h : cr_tk T τ) : τ (T + 2) = some (.inr (2, 1)) := h.2.2.1
theorem cr_tk.k3 {T : Nat} {τ : jj_T} (h : cr_tk T τ) : τ (T + 3) = some (.inr (4, 1)) := h.2.2.2.1
theorem cr_tk.k4 {T : Nat} {τ : jj_T} (h : cr_tk T τ) : τ (T + 4) = some (.inl 30) := h.2.2.2.2.1
theorem cr_tk.k5 {T : Nat} {τ : jj_T} (h : cr_tk T τ) : τ (T + 5) = some (.inr (2, 8)) := h.2.2.2.2.2.1
theorem cr_tk.k6 {T : Nat} {τ : jj_T} (h : cr_tk T τ) : τ (T + 6) = some (.inr (4, 8)) := h.2.2.2.2.2.2.1
theorem cr_tk.k7 {T : Nat} {τ : jj_T} (h : cr_tk T τ) : τ (T + 7) = some (.inl 31) := h.2.2.2.2.2.2.2.1
theorem cr_tk.k8 {T : Nat} {τ : jj_T} (h : cr_tk T τ) : τ (T + 8) = some (.inr (2, 12)) := h.2.2.2.2.2.2.2.2.1
theorem cr_tk.k9 {T : Nat} {τ : jj_T} (h : cr_tk T τ) : τ (T + 9) = some (.inr (4, 12)) := h.2.2.2.2.2.2.2.2.2.1
theorem cr_tk.k10 {T : Nat} {τ : jj_T} (h : cr_tk T τ) : τ (T + 10) = some (.inr (2, 60)) := h.2.2.2.2.2.2.2.2.2.2
/-- the links -/
def cr_tl (T : Nat) (r : jj_R) : Prop := (r T 12 = some (T + 1)) ∧ (r T 14 = some (T + 4)) ∧ (r T 15 = some (T + 7)) ∧ (r T 16 = some (T + 10)) ∧ (r (T + 1) 0 = some (T + 2)) ∧ (r (T + 1) 1 = some (T + 3)) ∧ (r (T + 4) 0 = some (T + 5)) ∧ (r (T + 4) 1 = some (T + 6)) ∧ (r (T + 7) 0 = some (T + 8)) ∧ (r (T + 7) 1 = some (T + 9))
theorem cr_tl.re {T : Nat} {r : jj_R} (h : cr_tl T r) : r T 12 = some (T + 1) := h.1
theorem cr_tl.sl {T : Nat} {r : jj_R} (h : cr_tl T r) : r T 14 = some (T + 4) := h.2.1
theorem cr_tl.pi {T : Nat} {r : jj_R} (h : cr_tl T r) : r T 15 = some (T + 7) := h.2.2.1
theorem cr_tl.ou {T : Nat} {r : jj_R} (h : cr_tl T r) : r T 16 = some (T + 10) := h.2.2.2.1
theorem cr_tl.r0 {T : Nat} {r : jj_R} (h : cr_tl T r) : r (T + 1) 0 = some (T + 2) := h.2.2.2.2.1
theorem cr_tl.r1 {T : Nat} {r : jj_R} (h : cr_tl T r) : r (T + 1) 1 = some (T + 3) := h.2.2.2.2.2.1
theorem cr_tl.s0 {T : Nat} {r : jj_R} (h : cr_tl T r) : r (T + 4) 0 = some (T + 5) := h.2.2.2.2.2.2.1
theorem cr_tl.s1 {T : Nat} {r : jj_R} (h : cr_tl T r) : r (T + 4) 1 = some (T + 6) := h.2.2.2.2.2.2.2.1
theorem cr_tl.p0 {T : Nat} {r : jj_R} (h : cr_tl T r) : r (T + 7) 0 = some (T + 8) := h.2.2.2.2.2.2.2.2.1
theorem cr_tl.p1 {T : Nat} {r : jj_R} (h : cr_tl T r) : r (T + 7) 1 = some (T + 9) := h.2.2.2.2.2.2.2.2.2
/-- what stays -/
def cr_tf (β : Nat) (σ : jm) (t T : Nat) (I : jj_I) (r : jj_R) : Prop := (I T 0 = nI t) ∧ (r T 1 = cr_tr β (σ.1 20 t)) ∧ (I T 2 = σ.1 21 t) ∧ (I T 3 = σ.1 19 t) ∧ (I T 4 = σ.1 13 t) ∧ (r T 5 = some (100 + 10 * nv (σ.1 13 t))) ∧ (r T 19 = cr_sr β (σ.1 23 t))
theorem cr_tf.nu {β : Nat} {σ : jm} {t T : Nat} {I : jj_I} {r : jj_R} (h : cr_tf β σ t T I r) : I T 0 = nI t := h.1
theorem cr_tf.pa {β : Nat} {σ : jm} {t T : Nat} {I : jj_I} {r : jj_R} (h : cr_tf β σ t T I r) : r T 1 = cr_tr β (σ.1 20 t) := h.2.1
theorem cr_tf.od {β : Nat} {σ : jm} {t T : Nat} {I : jj_I} {r : jj_R} (h : cr_tf β σ t T I r) : I T 2 = σ.1 21 t := h.2.2.1
theorem cr_tf.de {β : Nat} {σ : jm} {t T : Nat} {I : jj_I} {r : jj_R} (h : cr_tf β σ t T I r) : I T 3 = σ.1 19 t := h.2.2.2.1
theorem cr_tf.bn {β : Nat} {σ : jm} {t T : Nat} {I : jj_I} {r : jj_R} (h : cr_tf β σ t T I r) : I T 4 = σ.1 13 t := h.2.2.2.2.1
theorem cr_tf.bl {β : Nat} {σ : jm} {t T : Nat} {I : jj_I} {r : jj_R} (h : cr_tf β σ t T I r) : r T 5 = some (100 + 10 * nv (σ.1 13 t)) := h.2.2.2.2.2.1
theorem cr_tf.ro {β : Nat} {σ : jm} {t T : Nat} {I : jj_I} {r : jj_R} (h : cr_tf β σ t T I r) : r T 19 = cr_sr β (σ.1 23 t) := h.2.2.2.2.2.2
/-- what changes -/
def cr_tv (β : Nat) (σ : jm) (pl : Nat → Int32) (t T : Nat) (I : jj_I) (L : jj_L) (r : jj_R) : Prop := (I T 6 = pl t) ∧ (I T 7 = σ.1 17 t) ∧ (I T 8 = σ.1 18 t) ∧ (I T 9 = σ.1 16 t) ∧ (cr_st (σ.1 15 t) (r T 10) (I T 11)) ∧ (L T 13 = σ.2 24 t) ∧ (I T 17 = σ.1 34 t) ∧ (r T 18 = cr_sr β (σ.1 22 t)) ∧ (I (T + 7) 2 = σ.1 32 t)
theorem cr_tv.pl {β : Nat} {σ : jm} {pl : Nat → Int32} {t T : Nat} {I : jj_I} {L : jj_L} {r : jj_R} (h : cr_tv β σ pl t T I L r) : I T 6 = pl t := h.1
theorem cr_tv.sp {β : Nat} {σ : jm} {pl : Nat → Int32} {t T : Nat} {I : jj_I} {L : jj_L} {r : jj_R} (h : cr_tv β σ pl t T I L r) : I T 7 = σ.1 17 t := h.2.1
theorem cr_tv.fk {β : Nat} {σ : jm} {pl : Nat → Int32} {t T : Nat} {I : jj_I} {L : jj_L} {r : jj_R} (h : cr_tv β σ pl t T I L r) : I T 8 = σ.1 18 t := h.2.2.1
theorem cr_tv.wy {β : Nat} {σ : jm} {pl : Nat → Int32} {t T : Nat} {I : jj_I} {L : jj_L} {r : jj_R} (h : cr_tv β σ pl t T I L r) : I T 9 = σ.1 16 t := h.2.2.2.1
theorem cr_tv.st {β : Nat} {σ : jm} {pl : Nat → Int32} {t T : Nat} {I : jj_I} {L : jj_L} {r : jj_R} (h : cr_tv β σ pl t T I L r) : cr_st (σ.1 15 t) (r T 10) (I T 11) := h.2.2.2.2.1
theorem cr_tv.mk {β : Nat} {σ : jm} {pl : Nat → Int32} {t T : Nat} {I : jj_I} {L : jj_L} {r : jj_R} (h : cr_tv β σ pl t T I L r) : L T 13 = σ.2 24 t := h.2.2.2.2.2.1
theorem cr_tv.os {β : Nat} {σ : jm} {pl : Nat → Int32} {t T : Nat} {I : jj_I} {L : jj_L} {r : jj_R} (h : cr_tv β σ pl t T I L r) : I T 17 = σ.1 34 t := h.2.2.2.2.2.2.1
theorem cr_tv.pr {β : Nat} {σ : jm} {pl : Nat → Int32} {t T : Nat} {I : jj_I} {L : jj_L} {r : jj_R} (h : cr_tv β σ pl t T I L r) : r T 18 = cr_sr β (σ.1 22 t) := h.2.2.2.2.2.2.2.1
theorem cr_tv.ps {β : Nat} {σ : jm} {pl : Nat → Int32} {t T : Nat} {I : jj_I} {L : jj_L} {r : jj_R} (h : cr_tv β σ pl t T I L r) : I (T + 7) 2 = σ.1 32 t := h.2.2.2.2.2.2.2.2
/-- what it holds -/
def cr_tc (β : Nat) (σ : jm) (t T : Nat) (L : jj_L) (r : jj_R) : Prop := (L (T + 2) 0 = cr_nu (σ.1 27 t) (σ.2 26 t)) ∧ (r (T + 3) 0 = cr_hr β (σ.1 27 t) (σ.2 26 t)) ∧ (∀ k, k < 8 → L (T + 5) k = cr_nu (σ.1 29 (8 * t + k)) (σ.2 28 (8 * t + k))) ∧ (∀ k, k < 8 → r (T + 6) k = cr_hr β (σ.1 29 (8 * t + k)) (σ.2 28 (8 * t + k))) ∧ (∀ k, k < nv (σ.1 32 t) → L (T + 8) k = cr_nu (σ.1 31 (12 * t + k)) (σ.2 30 (12 * t + k))) ∧ (∀ k, k < nv (σ.1 32 t) → r (T + 9) k = cr_hr β (σ.1 31 (12 * t + k)) (σ.2 30 (12 * t + k))) ∧ (∀ k, k < nv (σ.1 34 t) → L (T + 10) k = σ.2 33 (60 * t + k))
theorem cr_tc.rn {β : Nat} {σ : jm} {t T : Nat} {L : jj_L} {r : jj_R} (h : cr_tc β σ t T L r) : L (T + 2) 0 = cr_nu (σ.1 27 t) (σ.2 26 t) := h.1
theorem cr_tc.rh {β : Nat} {σ : jm} {t T : Nat} {L : jj_L} {r : jj_R} (h : cr_tc β σ t T L r) : r (T + 3) 0 = cr_hr β (σ.1 27 t) (σ.2 26 t) := h.2.1
theorem cr_tc.sn {β : Nat} {σ : jm} {t T : Nat} {L : jj_L} {r : jj_R} (h : cr_tc β σ t T L r) : ∀ k, k < 8 → L (T + 5) k = cr_nu (σ.1 29 (8 * t + k)) (σ.2 28 (8 * t + k)) := h.2.2.1
theorem cr_tc.sh {β : Nat} {σ : jm} {t T : Nat} {L : jj_L} {r : jj_R} (h : cr_tc β σ t T L r) : ∀ k, k < 8 → r (T + 6) k = cr_hr β (σ.1 29 (8 * t + k)) (σ.2 28 (8 * t + k)) := h.2.2.2.1
theorem cr_tc.pn {β : Nat} {σ : jm} {t T : Nat} {L : jj_L} {r : jj_R} (h : cr_tc β σ t T L r) : ∀ k, k < nv (σ.1 32 t) → L (T + 8) k = cr_nu (σ.1 31 (12 * t + k)) (σ.2 30 (12 * t + k)) := h.2.2.2.2.1
theorem cr_tc.ph {β : Nat} {σ : jm} {t T : Nat} {L : jj_L} {r : jj_R} (h : cr_tc β σ t T L r) : ∀ k, k < nv (σ.1 32 t) → r (T + 9) k = cr_hr β (σ.1 31 (12 * t + k)) (σ.2 30 (12 * t + k)) := h.2.2.2.2.2.1
theorem cr_tc.on {β : Nat} {σ : jm} {t T : Nat} {L : jj_L} {r : jj_R} (h : cr_tc β σ t T L r) : ∀ k, k < nv (σ.1 34 t) → L (T + 10) k = σ.2 33 (60 * t + k) := h.2.2.2.2.2.2
def cr_tsk (β : Nat) (σ : jm) (pl : Nat → Int32) (t T : Nat) (τ : jj_T) (I : jj_I) (L : jj_L) (r : jj_R) : Prop := (cr_tk T τ) ∧ (cr_tl T r) ∧ (cr_tf β σ t T I r) ∧ (cr_tv β σ pl t T I L r) ∧ (cr_tc β σ t T L r)
theorem cr_tsk.k {β : Nat} {σ : jm} {pl : Nat → Int32} {t T : Nat} {τ : jj_T} {I : jj_I} {L : jj_L} {r : jj_R} (h : cr_tsk β σ pl t T τ I L r) : cr_tk T τ := h.1
theorem cr_tsk.l {β : Nat} {σ : jm} {pl : Nat → Int32} {t T : Nat} {τ : jj_T} {I : jj_I} {L : jj_L} {r : jj_R} (h : cr_tsk β σ pl t T τ I L r) : cr_tl T r := h.2.1
theorem cr_tsk.f {β : Nat} {σ : jm} {pl : Nat → Int32} {t T : Nat} {τ : jj_T} {I : jj_I} {L : jj_L} {r : jj_R} (h : cr_tsk β σ pl t T τ I L r) : cr_tf β σ t T I r := h.2.2.1
theorem cr_tsk.v {β : Nat} {σ : jm} {pl : Nat → Int32} {t T : Nat} {τ : jj_T} {I : jj_I} {L : jj_L} {r : jj_R} (h : cr_tsk β σ pl t T τ I L r) : cr_tv β σ pl t T I L r := h.2.2.2.1
theorem cr_tsk.c {β : Nat} {σ : jm} {pl : Nat → Int32} {t T : Nat} {τ : jj_T} {I : jj_I} {L : jj_L} {r : jj_R} (h : cr_tsk β σ pl t T τ I L r) : cr_tc β σ t T L r := h.2.2.2.2
def cr_lst (th e N n : Nat) (f : Nat → Nat) (τ : jj_T) (I : jj_I) (r : jj_R) : Prop := (τ th = some (.inl 33)) ∧ (r th 1 = some e) ∧ (I th 2 = nI n) ∧ (τ e = some (.inr (3, N))) ∧ (n ≤ N) ∧ (N < 256) ∧ (N = 0 → e = 0) ∧ (∀ i, i < n → r e i = some (f i)) ∧ (∀ i, n ≤ i → r e i = none)
theorem cr_lst.k0 {th e N n : Nat} {f : Nat → Nat} {τ : jj_T} {I : jj_I} {r : jj_R} (h : cr_lst th e N n f τ I r) : τ th = some (.inl 33) := h.1
theorem cr_lst.l1 {th e N n : Nat} {f : Nat → Nat} {τ : jj_T} {I : jj_I} {r : jj_R} (h : cr_lst th e N n f τ I r) : r th 1 = some e := h.2.1
theorem cr_lst.sz {th e N n : Nat} {f : Nat → Nat} {τ : jj_T} {I : jj_I} {r : jj_R} (h : cr_lst th e N n f τ I r) : I th 2 = nI n := h.2.2.1
theorem cr_lst.ke {th e N n : Nat} {f : Nat → Nat} {τ : jj_T} {I : jj_I} {r : jj_R} (h : cr_lst th e N n f τ I r) : τ e = some (.inr (3, N)) := h.2.2.2.1
theorem cr_lst.le {th e N n : Nat} {f : Nat → Nat} {τ : jj_T} {I : jj_I} {r : jj_R} (h : cr_lst th e N n f τ I r) : n ≤ N := h.2.2.2.2.1
theorem cr_lst.lt {th e N n : Nat} {f : Nat → Nat} {τ : jj_T} {I : jj_I} {r : jj_R} (h : cr_lst th e N n f τ I r) : N < 256 := h.2.2.2.2.2.1
theorem cr_lst.z0 {th e N n : Nat} {f : Nat → Nat} {τ : jj_T} {I : jj_I} {r : jj_R} (h : cr_lst th e N n f τ I r) : N = 0 → e = 0 := h.2.2.2.2.2.2.1
theorem cr_lst.el {th e N n : Nat} {f : Nat → Nat} {τ : jj_T} {I : jj_I} {r : jj_R} (h : cr_lst th e N n f τ I r) : ∀ i, i < n → r e i = some (f i) := h.2.2.2.2.2.2.2.1
theorem cr_lst.no {th e N n : Nat} {f : Nat → Nat} {τ : jj_T} {I : jj_I} {r : jj_R} (h : cr_lst th e N n f τ I r) : ∀ i, n ≤ i → r e i = none := h.2.2.2.2.2.2.2.2
def cr_doer (j D : Nat) (τ : jj_T) (I : jj_I) (r : jj_R) : Prop := (τ D = some (.inl (cr_ci j))) ∧ (I D (cr_ts j) = nI (m_tk j)) ∧ (r D 2 = some 10)
theorem cr_doer.k0 {j D : Nat} {τ : jj_T} {I : jj_I} {r : jj_R} (h : cr_doer j D τ I r) : τ D = some (.inl (cr_ci j)) := h.1
theorem cr_doer.tk {j D : Nat} {τ : jj_T} {I : jj_I} {r : jj_R} (h : cr_doer j D τ I r) : I D (cr_ts j) = nI (m_tk j) := h.2.1
theorem cr_doer.th {j D : Nat} {τ : jj_T} {I : jj_I} {r : jj_R} (h : cr_doer j D τ I r) : r D 2 = some 10 := h.2.2
def cr_root (τ : jj_T) (I : jj_I) (r : jj_R) : Prop := (τ 10 = some (.inl 0)) ∧ (τ 11 = some (.inr (5, 22))) ∧ (τ 12 = some (.inr (0, 16))) ∧ (r 10 0 = some 11) ∧ (r 10 1 = some 13) ∧ (r 10 2 = some 14) ∧ (r 10 3 = some 12) ∧ (r 10 5 = some 15) ∧ (r 10 6 = some 16) ∧ (∀ j, j < 22 → r 11 j = some (20 + j)) ∧ (∀ j, j < 22 → cr_doer j (20 + j) τ I r) ∧ (∀ i, r 0 i = none)
theorem cr_root.k0 {τ : jj_T} {I : jj_I} {r : jj_R} (h : cr_root τ I r) : τ 10 = some (.inl 0) := h.1
theorem cr_root.k1 {τ : jj_T} {I : jj_I} {r : jj_R} (h : cr_root τ I r) : τ 11 = some (.inr (5, 22)) := h.2.1
theorem cr_root.k2 {τ : jj_T} {I : jj_I} {r : jj_R} (h : cr_root τ I r) : τ 12 = some (.inr (0, 16)) := h.2.2.1
theorem cr_root.l0 {τ : jj_T} {I : jj_I} {r : jj_R} (h : cr_root τ I r) : r 10 0 = some 11 := h.2.2.2.1
theorem cr_root.l1 {τ : jj_T} {I : jj_I} {r : jj_R} (h : cr_root τ I r) : r 10 1 = some 13 := h.2.2.2.2.1
theorem cr_root.l2 {τ : jj_T} {I : jj_I} {r : jj_R} (h : cr_root τ I r) : r 10 2 = some 14 := h.2.2.2.2.2.1
theorem cr_root.l3 {τ : jj_T} {I : jj_I} {r : jj_R} (h : cr_root τ I r) : r 10 3 = some 12 := h.2.2.2.2.2.2.1
theorem cr_root.l5 {τ : jj_T} {I : jj_I} {r : jj_R} (h : cr_root τ I r) : r 10 5 = some 15 := h.2.2.2.2.2.2.2.1
theorem cr_root.l6 {τ : jj_T} {I : jj_I} {r : jj_R} (h : cr_root τ I r) : r 10 6 = some 16 := h.2.2.2.2.2.2.2.2.1
theorem cr_root.dl {τ : jj_T} {I : jj_I} {r : jj_R} (h : cr_root τ I r) : ∀ j, j < 22 → r 11 j = some (20 + j) := h.2.2.2.2.2.2.2.2.2.1
theorem cr_root.dd {τ : jj_T} {I : jj_I} {r : jj_R} (h : cr_root τ I r) : ∀ j, j < 22 → cr_doer j (20 + j) τ I r := h.2.2.2.2.2.2.2.2.2.2.1
theorem cr_root.z {τ : jj_T} {I : jj_I} {r : jj_R} (h : cr_root τ I r) : ∀ i, r 0 i = none := h.2.2.2.2.2.2.2.2.2.2.2
def cr_sc (σ : jm) (I : jj_I) : Prop := (I 10 4 = σ.1 0 10) ∧ (I 10 7 = σ.1 0 36) ∧ (I 10 8 = σ.1 0 34) ∧ (I 10 9 = σ.1 0 35) ∧ (∀ c, c < 16 → I 12 c = σ.1 9 c)
theorem cr_sc.ru {σ : jm} {I : jj_I} (h : cr_sc σ I) : I 10 4 = σ.1 0 10 := h.1
theorem cr_sc.se {σ : jm} {I : jj_I} (h : cr_sc σ I) : I 10 7 = σ.1 0 36 := h.2.1
theorem cr_sc.sa {σ : jm} {I : jj_I} (h : cr_sc σ I) : I 10 8 = σ.1 0 34 := h.2.2.1
theorem cr_sc.me {σ : jm} {I : jj_I} (h : cr_sc σ I) : I 10 9 = σ.1 0 35 := h.2.2.2.1
theorem cr_sc.ki {σ : jm} {I : jj_I} (h : cr_sc σ I) : ∀ c, c < 16 → I 12 c = σ.1 9 c := h.2.2.2.2
def cr_fr (β nb nm nt ns : Nat) (τ : jj_T) : Prop := (∀ b, nb ≤ b → b < 8 → ∀ i, i < 3 → τ (100 + 10 * b + i) = none) ∧ (∀ b, nm ≤ b → b < 4 → ∀ i, i < 4 → τ (200 + 10 * b + i) = none) ∧ (∀ t, nt ≤ t → t < 85 → ∀ i, i < 11 → τ (β + 5000 + 20 * t + i) = none) ∧ (∀ s, ns ≤ s → s < 169 → ∀ i, i < 2 → τ (β + 1000 + 10 * s + i) = none)
theorem cr_fr.b {β nb nm nt ns : Nat} {τ : jj_T} (h : cr_fr β nb nm nt ns τ) : ∀ b, nb ≤ b → b < 8 → ∀ i, i < 3 → τ (100 + 10 * b + i) = none := h.1
theorem cr_fr.m {β nb nm nt ns : Nat} {τ : jj_T} (h : cr_fr β nb nm nt ns τ) : ∀ b, nm ≤ b → b < 4 → ∀ i, i < 4 → τ (200 + 10 * b + i) = none := h.2.1
theorem cr_fr.t {β nb nm nt ns : Nat} {τ : jj_T} (h : cr_fr β nb nm nt ns τ) : ∀ t, nt ≤ t → t < 85 → ∀ i, i < 11 → τ (β + 5000 + 20 * t + i) = none := h.2.2.1
theorem cr_fr.s {β nb nm nt ns : Nat} {τ : jj_T} (h : cr_fr β nb nm nt ns τ) : ∀ s, ns ≤ s → s < 169 → ∀ i, i < 2 → τ (β + 1000 + 10 * s + i) = none := h.2.2.2
/-- the segments of the list: in order, closed -/
def cr_in (ss : List Nat) (x : Int32) : Prop := x = -4 ∨ nv x ∈ ss
def cr_ss (σ : jm) (ss : List Nat) : Prop := (ss.Pairwise (· < ·)) ∧ (∀ s, s ∈ ss → s < nv (σ.1 0 36)) ∧ (∀ s, s ∈ ss → cr_in ss (σ.1 38 s)) ∧ (∀ t, t < nv (σ.1 0 11) → ¬ σ.1 15 t = 4 → nv (σ.1 22 t) ∈ ss) ∧ (∀ t, t < nv (σ.1 0 11) → ¬ σ.1 15 t = 4 → cr_in ss (σ.1 23 t))
theorem cr_ss.so {σ : jm} {ss : List Nat} (h : cr_ss σ ss) : ss.Pairwise (· < ·) := h.1
theorem cr_ss.lt {σ : jm} {ss : List Nat} (h : cr_ss σ ss) : ∀ s, s ∈ ss → s < nv (σ.1 0 36) := h.2.1
theorem cr_ss.un {σ : jm} {ss : List Nat} (h : cr_ss σ ss) : ∀ s, s ∈ ss → cr_in ss (σ.1 38 s) := h.2.2.1
theorem cr_ss.pr {σ : jm} {ss : List Nat} (h : cr_ss σ ss) : ∀ t, t < nv (σ.1 0 11) → ¬ σ.1 15 t = 4 → nv (σ.1 22 t) ∈ ss := h.2.2.2.1
theorem cr_ss.ro {σ : jm} {ss : List Nat} (h : cr_ss σ ss) : ∀ t, t < nv (σ.1 0 11) → ¬ σ.1 15 t = 4 → cr_in ss (σ.1 23 t) := h.2.2.2.2
def cr_e (β : Nat) (e : Nat → Nat) : Prop := (1000 ≤ β) ∧ (∀ i, 13 ≤ i → i ≤ 16 → e i = 0 ∨ 1000 ≤ e i) ∧ (∀ i, 13 ≤ i → i ≤ 16 → e i < β ∨ β + 10000 ≤ e i) ∧ (∀ i j, 13 ≤ i → i ≤ 16 → 13 ≤ j → j ≤ 16 → i ≠ j → e i = e j → e i = 0)
theorem cr_e.be {β : Nat} {e : Nat → Nat} (h : cr_e β e) : 1000 ≤ β := h.1
theorem cr_e.lo {β : Nat} {e : Nat → Nat} (h : cr_e β e) : ∀ i, 13 ≤ i → i ≤ 16 → e i = 0 ∨ 1000 ≤ e i := h.2.1
theorem cr_e.ou {β : Nat} {e : Nat → Nat} (h : cr_e β e) : ∀ i, 13 ≤ i → i ≤ 16 → e i < β ∨ β + 10000 ≤ e i := h.2.2.1
theorem cr_e.di {β : Nat} {e : Nat → Nat} (h : cr_e β e) : ∀ i j, 13 ≤ i → i ≤ 16 → 13 ≤ j → j ≤ 16 → i ≠ j → e i = e j → e i = 0 := h.2.2.2
/-- the Model beside it -/
def cr_mo (ρ : jm) (τ : jj_T) (I : jj_I) (L : jj_L) (r : jj_R) : Prop := (∀ k, k < 42 → τ (300 + k) = jm_T k) ∧ (∀ k, k < 42 → ∀ j, I (300 + k) j = ρ.1 k j) ∧ (∀ k, k < 42 → ∀ j, L (300 + k) j = ρ.2 k j) ∧ (∀ k, k < 42 → ∀ j, r (300 + k) j = (jm_R k j).map (300 + ·))
theorem cr_mo.k {ρ : jm} {τ : jj_T} {I : jj_I} {L : jj_L} {r : jj_R} (h : cr_mo ρ τ I L r) : ∀ k, k < 42 → τ (300 + k) = jm_T k := h.1
theorem cr_mo.i {ρ : jm} {τ : jj_T} {I : jj_I} {L : jj_L} {r : jj_R} (h : cr_mo ρ τ I L r) : ∀ k, k < 42 → ∀ j, I (300 + k) j = ρ.1 k j := h.2.1
theorem cr_mo.l {ρ : jm} {τ : jj_T} {I : jj_I} {L : jj_L} {r : jj_R} (h : cr_mo ρ τ I L r) : ∀ k, k < 42 → ∀ j, L (300 + k) j = ρ.2 k j := h.2.2.1
theorem cr_mo.r {ρ : jm} {τ : jj_T} {I : jj_I} {L : jj_L} {r : jj_R} (h : cr_mo ρ τ I L r) : ∀ k, k < 42 → ∀ j, r (300 + k) j = (jm_R k j).map (300 + ·) := h.2.2.2
def cr_rel (β : Nat) (ss : List Nat) (e N : Nat → Nat) (ρ : jm) (pl : Nat → Int32) (σ : jm) (τ : jj_T) (I : jj_I) (L : jj_L) (r : jj_R) : Prop := (cr_root τ I r) ∧ (cr_sc σ I) ∧ (cr_lst 13 (e 13) (N 13) (nv (σ.1 0 0)) (fun b => 100 + 10 * b) τ I r) ∧ (cr_lst 14 (e 14) (N 14) (nv (σ.1 0 4)) (fun b => 200 + 10 * b) τ I r) ∧ (cr_lst 15 (e 15) (N 15) (nv (σ.1 0 11)) (fun t => β + 5000 + 20 * t) τ I r) ∧ (cr_lst 16 (e 16) (N 16) ss.length (fun k => β + 1000 + 10 * ss.getD k 0) τ I r) ∧ (∀ b, b < nv (σ.1 0 0) → cr_blk σ b (100 + 10 * b) τ I r) ∧ (∀ b, b < nv (σ.1 0 4) → cr_mrg σ b (200 + 10 * b) τ I r) ∧ (∀ t, t < nv (σ.1 0 11) → cr_tsk β σ pl t (β + 5000 + 20 * t) τ I L r) ∧ (∀ s, s < nv (σ.1 0 36) → cr_seg β σ ss s (β + 1000 + 10 * s) τ I L r) ∧ (cr_fr β (nv (σ.1 0 0)) (nv (σ.1 0 4)) (nv (σ.1 0 11)) (nv (σ.1 0 36)) τ) ∧ (cr_ss σ ss) ∧ (cr_e β e) ∧ (cr_mo ρ τ I L r) ∧ (∀ u, u < nv (σ.1 0 11) → nv (σ.1 32 u) ≤ 12 ∧ nv (σ.1 34 u) ≤ 60) ∧ (nv (σ.1 0 0) ≤ 8 ∧ nv (σ.1 0 4) ≤ 4 ∧ nv (σ.1 0 11) ≤ 40 ∧ nv (σ.1 0 36) ≤ 79)
theorem cr_rel.ro {β : Nat} {ss : List Nat} {e N : Nat → Nat} {ρ : jm} {pl : Nat → Int32} {σ : jm} {τ : jj_T} {I : jj_I} {L : jj_L} {r : jj_R} (h : cr_rel β ss e N ρ pl σ τ I L r) : cr_root τ I r := h.1
theorem cr_rel.sc {β : Nat} {ss : List Nat} {e N : Nat → Nat} {ρ : jm} {pl : Nat → Int32} {σ : jm} {τ : jj_T} {I : jj_I} {L : jj_L} {r : jj_R} (h : cr_rel β ss e N ρ pl σ τ I L r) : cr_sc σ I := h.2.1
theorem cr_rel.lb {β : Nat} {ss : List Nat} {e N : Nat → Nat} {ρ : jm} {pl : Nat → Int32} {σ : jm} {τ : jj_T} {I : jj_I} {L : jj_L} {r : jj_R} (h : cr_rel β ss e N ρ pl σ τ I L r) : cr_lst 13 (e 13) (N 13) (nv (σ.1 0 0)) (fun b => 100 + 10 * b) τ I r := h.2.2.1
theorem cr_rel.lm {β : Nat} {ss : List Nat} {e N : Nat → Nat} {ρ : jm} {pl : Nat → Int32} {σ : jm} {τ : jj_T} {I : jj_I} {L : jj_L} {r : jj_R} (h : cr_rel β ss e N ρ pl σ τ I L r) : cr_lst 14 (e 14) (N 14) (nv (σ.1 0 4)) (fun b => 200 + 10 * b) τ I r := h.2.2.2.1
theorem cr_rel.lt {β : Nat} {ss : List Nat} {e N : Nat → Nat} {ρ : jm} {pl : Nat → Int32} {σ : jm} {τ : jj_T} {I : jj_I} {L : jj_L} {r : jj_R} (h : cr_rel β ss e N ρ pl σ τ I L r) : cr_lst 15 (e 15) (N 15) (nv (σ.1 0 11)) (fun t => β + 5000 + 20 * t) τ I r := h.2.2.2.2.1
theorem cr_rel.ls {β : Nat} {ss : List Nat} {e N : Nat → Nat} {ρ : jm} {pl : Nat → Int32} {σ : jm} {τ : jj_T} {I : jj_I} {L : jj_L} {r : jj_R} (h : cr_rel β ss e N ρ pl σ τ I L r) : cr_lst 16 (e 16) (N 16) ss.length (fun k => β + 1000 + 10 * ss.getD k 0) τ I r := h.2.2.2.2.2.1
theorem cr_rel.bl {β : Nat} {ss : List Nat} {e N : Nat → Nat} {ρ : jm} {pl : Nat → Int32} {σ : jm} {τ : jj_T} {I : jj_I} {L : jj_L} {r : jj_R} (h : cr_rel β ss e N ρ pl σ τ I L r) : ∀ b, b < nv (σ.1 0 0) → cr_blk σ b (100 + 10 * b) τ I r := h.2.2.2.2.2.2.1
theorem cr_rel.mg {β : Nat} {ss : List Nat} {e N : Nat → Nat} {ρ : jm} {pl : Nat → Int32} {σ : jm} {τ : jj_T} {I : jj_I} {L : jj_L} {r : jj_R} (h : cr_rel β ss e N ρ pl σ τ I L r) : ∀ b, b < nv (σ.1 0 4) → cr_mrg σ b (200 + 10 * b) τ I r := h.2.2.2.2.2.2.2.1
theorem cr_rel.tk {β : Nat} {ss : List Nat} {e N : Nat → Nat} {ρ : jm} {pl : Nat → Int32} {σ : jm} {τ : jj_T} {I : jj_I} {L : jj_L} {r : jj_R} (h : cr_rel β ss e N ρ pl σ τ I L r) : ∀ t, t < nv (σ.1 0 11) → cr_tsk β σ pl t (β + 5000 + 20 * t) τ I L r := h.2.2.2.2.2.2.2.2.1
theorem cr_rel.sg {β : Nat} {ss : List Nat} {e N : Nat → Nat} {ρ : jm} {pl : Nat → Int32} {σ : jm} {τ : jj_T} {I : jj_I} {L : jj_L} {r : jj_R} (h : cr_rel β ss e N ρ pl σ τ I L r) : ∀ s, s < nv (σ.1 0 36) → cr_seg β σ ss s (β + 1000 + 10 * s) τ I L r := h.2.2.2.2.2.2.2.2.2.1
theorem cr_rel.fr {β : Nat} {ss : List Nat} {e N : Nat → Nat} {ρ : jm} {pl : Nat → Int32} {σ : jm} {τ : jj_T} {I : jj_I} {L : jj_L} {r : jj_R} (h : cr_rel β ss e N ρ pl σ τ I L r) : cr_fr β (nv (σ.1 0 0)) (nv (σ.1 0 4)) (nv (σ.1 0 11)) (nv (σ.1 0 36)) τ := h.2.2.2.2.2.2.2.2.2.2.1
theorem cr_rel.ss {β : Nat} {ss : List Nat} {e N : Nat → Nat} {ρ : jm} {pl : Nat → Int32} {σ : jm} {τ : jj_T} {I : jj_I} {L : jj_L} {r : jj_R} (h : cr_rel β ss e N ρ pl σ τ I L r) : cr_ss σ ss := h.2.2.2.2.2.2.2.2.2.2.2.1
theorem cr_rel.e {β : Nat} {ss : List Nat} {e N : Nat → Nat} {ρ : jm} {pl : Nat → Int32} {σ : jm} {τ : jj_T} {I : jj_I} {L : jj_L} {r : jj_R} (h : cr_rel β ss e N ρ pl σ τ I L r) : cr_e β e := h.2.2.2.2.2.2.2.2.2.2.2.2.1
theorem cr_rel.mo {β : Nat} {ss : List Nat} {e N : Nat → Nat} {ρ : jm} {pl : Nat → Int32} {σ : jm} {τ : jj_T} {I : jj_I} {L : jj_L} {r : jj_R} (h : cr_rel β ss e N ρ pl σ τ I L r) : cr_mo ρ τ I L r := h.2.2.2.2.2.2.2.2.2.2.2.2.2.1
theorem cr_rel.po {β : Nat} {ss : List Nat} {e N : Nat → Nat} {ρ : jm} {pl : Nat → Int32} {σ : jm} {τ : jj_T} {I : jj_I} {L : jj_L} {r : jj_R} (h : cr_rel β ss e N ρ pl σ τ I L r) : ∀ u, u < nv (σ.1 0 11) → nv (σ.1 32 u) ≤ 12 ∧ nv (σ.1 34 u) ≤ 60 := h.2.2.2.2.2.2.2.2.2.2.2.2.2.2.1
theorem cr_rel.bd {β : Nat} {ss : List Nat} {e N : Nat → Nat} {ρ : jm} {pl : Nat → Int32} {σ : jm} {τ : jj_T} {I : jj_I} {L : jj_L} {r : jj_R} (h : cr_rel β ss e N ρ pl σ τ I L r) : nv (σ.1 0 0) ≤ 8 ∧ nv (σ.1 0 4) ≤ 4 ∧ nv (σ.1 0 11) ≤ 40 ∧ nv (σ.1 0 36) ≤ 79 := h.2.2.2.2.2.2.2.2.2.2.2.2.2.2.2
