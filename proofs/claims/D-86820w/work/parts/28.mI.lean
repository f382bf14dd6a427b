set_option maxRecDepth 100000
theorem in_c (x : Int32) : x.toInt64.toInt32 = x := by simp

/-- what an op's number may be -/
def m_arg (op : Nat) (a : Int32) : Prop := (op = 1 ∨ op = 2 → jb a 15) ∧ (op = 12 ∨ op = 13 → jb a 40) ∧ (op = 14 ∨ op = 15 ∨ op = 17 → jb a 7)
/-- a task's number -/
def m_hv (σ : jm) (v : Int64) : Prop := ∃ o, o < nv (σ.1 0 11) ∧ v = (nI o).toInt64
/-- how many tasks may still come below one that may fork -/
def m_g (l : Nat) : Nat := match l with
  | 0 => 13 | 1 => 4 | 2 => 1 | _ => 0
def m_cap (σ : jm) : Nat → Nat
  | 0 => 0
  | n + 1 => m_cap σ n + (3 - nv (σ.1 18 n)) * m_g (nv (σ.1 19 n))
/-- the live handle at a place of a task: 0..11 its pile, 12..19 its slots, 20 its result -/
def m_lv (σ : jm) (t i : Nat) : Option Nat :=
  if i < 12 then (if σ.1 15 t = 0 ∧ i < nv (σ.1 32 t) ∧ ¬ σ.1 31 (12 * t + i) = 0 then some (nv (σ.2 30 (12 * t + i)).toInt32) else none)
  else if i < 20 then (if σ.1 15 t = 0 ∧ ¬ σ.1 29 (8 * t + (i - 12)) = 0 then some (nv (σ.2 28 (8 * t + (i - 12))).toInt32) else none)
  else if i = 20 then (if σ.1 15 t = 2 ∧ ¬ σ.1 27 t = 0 then some (nv (σ.2 26 t).toInt32) else none) else none
def m_lin (σ : jm) : Prop := (∀ t i t' i' q, t < nv (σ.1 0 11) → t' < nv (σ.1 0 11) → m_lv σ t i = some q → m_lv σ t' i' = some q → t = t' ∧ i = i') ∧ ∃ rk : Nat → Nat, ∀ t i q, t < nv (σ.1 0 11) → m_lv σ t i = some q → q < nv (σ.1 0 11) ∧ ¬ σ.1 15 q = 4 ∧ rk t < rk q
def m_t1 (σ : jm) (t : Nat) : Prop := (jb (σ.1 13 t) 7 ∧ nv (σ.1 13 t) < nv (σ.1 0 0)) ∧ (jb (σ.1 15 t) 4 ∧ ¬ σ.1 15 t = 1) ∧ (jb (σ.1 14 t) 40 ∧ (σ.1 15 t = 0 → nv (σ.1 14 t) < nv (σ.1 2 (nv (σ.1 13 t))))) ∧ (jb (σ.1 19 t) 3 ∧ jb (σ.1 18 t) 3) ∧ (jb (σ.1 32 t) 12 ∧ jb (σ.1 34 t) 60) ∧ (σ.1 20 t = -4 ∨ (σ.1 20 t = nI (nv (σ.1 20 t)) ∧ nv (σ.1 20 t) < t)) ∧ (σ.1 22 t = nI (nv (σ.1 22 t)) ∧ nv (σ.1 22 t) < nv (σ.1 0 36)) ∧ (m_ch (nv (σ.1 0 36)) (σ.1 23 t)) ∧ (¬ σ.1 15 t = 4 → m_rc σ (σ.1 23 t) 169 (σ.1 22 t)) ∧ ((σ.1 25 t = 0 → σ.1 27 t = 0 ∧ σ.2 26 t = 0) ∧ (¬ σ.1 27 t = 0 → m_hv σ (σ.2 26 t))) ∧ (∀ k, k < nv (σ.1 32 t) → ¬ σ.1 31 (12 * t + k) = 0 → m_hv σ (σ.2 30 (12 * t + k))) ∧ (∀ k, k < 8 → ¬ σ.1 29 (8 * t + k) = 0 → m_hv σ (σ.2 28 (8 * t + k)))
def m_inv (σ : jm) : Prop := (jb (σ.1 0 0) 8) ∧ (jb (σ.1 0 4) 4) ∧ (j01 (σ.1 0 10)) ∧ (∀ b, b < 8 → jb (σ.1 2 b) 40) ∧ (∀ i, i < 320 → jb (σ.1 3 i) 21 ∧ m_arg (nv (σ.1 3 i)) (σ.1 4 i)) ∧ (∀ i, i < 4 → jb (σ.1 6 i) 12) ∧ (∀ i, i < 48 → jb (σ.1 7 i) 10) ∧ (∀ c, c < 16 → jb (σ.1 9 c) 6 ∧ (3 ≤ nv (σ.1 9 c) → nv (σ.1 9 c) - 3 < nv (σ.1 0 4))) ∧ (∀ j, j01 (σ.1 25 j) ∧ j01 (σ.1 27 j) ∧ j01 (σ.1 29 j) ∧ j01 (σ.1 31 j) ∧ j01 (σ.1 39 j) ∧ j01 (σ.1 41 j)) ∧ (σ.1 0 10 = 1 → 1 ≤ nv (σ.1 0 11) ∧ ∀ c, c < 16 → 3 ≤ nv (σ.1 9 c) → m_right (nv (σ.1 9 c) - 3) σ = true) ∧ (σ.1 0 10 = 0 → σ.1 0 11 = 0) ∧ (σ.1 0 11 = nI (nv (σ.1 0 11)) ∧ σ.1 0 36 = nI (nv (σ.1 0 36)) ∧ nv (σ.1 0 36) = 2 * nv (σ.1 0 11) - 1 ∧ (nv (σ.1 0 11) = 0 ∨ nv (σ.1 0 11) + m_cap σ (nv (σ.1 0 11)) = 40)) ∧ (∀ s, s < nv (σ.1 0 36) → m_ch s (σ.1 38 s)) ∧ (∀ t, t < nv (σ.1 0 11) → m_t1 σ t) ∧ (m_lin σ)
theorem m_t1.blk {σ : jm} {t : Nat} (h : m_t1 σ t) : jb (σ.1 13 t) 7 ∧ nv (σ.1 13 t) < nv (σ.1 0 0) := h.1
theorem m_t1.st {σ : jm} {t : Nat} (h : m_t1 σ t) : jb (σ.1 15 t) 4 ∧ ¬ σ.1 15 t = 1 := h.2.1
theorem m_t1.pl {σ : jm} {t : Nat} (h : m_t1 σ t) : jb (σ.1 14 t) 40 ∧ (σ.1 15 t = 0 → nv (σ.1 14 t) < nv (σ.1 2 (nv (σ.1 13 t)))) := h.2.2.1
theorem m_t1.lv {σ : jm} {t : Nat} (h : m_t1 σ t) : jb (σ.1 19 t) 3 ∧ jb (σ.1 18 t) 3 := h.2.2.2.1
theorem m_t1.po {σ : jm} {t : Nat} (h : m_t1 σ t) : jb (σ.1 32 t) 12 ∧ jb (σ.1 34 t) 60 := h.2.2.2.2.1
theorem m_t1.pa {σ : jm} {t : Nat} (h : m_t1 σ t) : σ.1 20 t = -4 ∨ (σ.1 20 t = nI (nv (σ.1 20 t)) ∧ nv (σ.1 20 t) < t) := h.2.2.2.2.2.1
theorem m_t1.pr {σ : jm} {t : Nat} (h : m_t1 σ t) : σ.1 22 t = nI (nv (σ.1 22 t)) ∧ nv (σ.1 22 t) < nv (σ.1 0 36) := h.2.2.2.2.2.2.1
theorem m_t1.ro {σ : jm} {t : Nat} (h : m_t1 σ t) : m_ch (nv (σ.1 0 36)) (σ.1 23 t) := h.2.2.2.2.2.2.2.1
theorem m_t1.rc {σ : jm} {t : Nat} (h : m_t1 σ t) : ¬ σ.1 15 t = 4 → m_rc σ (σ.1 23 t) 169 (σ.1 22 t) := h.2.2.2.2.2.2.2.2.1
theorem m_t1.hr {σ : jm} {t : Nat} (h : m_t1 σ t) : (σ.1 25 t = 0 → σ.1 27 t = 0 ∧ σ.2 26 t = 0) ∧ (¬ σ.1 27 t = 0 → m_hv σ (σ.2 26 t)) := h.2.2.2.2.2.2.2.2.2.1
theorem m_t1.ph {σ : jm} {t : Nat} (h : m_t1 σ t) : ∀ k, k < nv (σ.1 32 t) → ¬ σ.1 31 (12 * t + k) = 0 → m_hv σ (σ.2 30 (12 * t + k)) := h.2.2.2.2.2.2.2.2.2.2.1
theorem m_t1.sh {σ : jm} {t : Nat} (h : m_t1 σ t) : ∀ k, k < 8 → ¬ σ.1 29 (8 * t + k) = 0 → m_hv σ (σ.2 28 (8 * t + k)) := h.2.2.2.2.2.2.2.2.2.2.2
theorem m_inv.bl {σ : jm} (h : m_inv σ) : jb (σ.1 0 0) 8 := h.1
theorem m_inv.me {σ : jm} (h : m_inv σ) : jb (σ.1 0 4) 4 := h.2.1
theorem m_inv.ru {σ : jm} (h : m_inv σ) : j01 (σ.1 0 10) := h.2.2.1
theorem m_inv.cm {σ : jm} (h : m_inv σ) : ∀ b, b < 8 → jb (σ.1 2 b) 40 := h.2.2.2.1
theorem m_inv.co {σ : jm} (h : m_inv σ) : ∀ i, i < 320 → jb (σ.1 3 i) 21 ∧ m_arg (nv (σ.1 3 i)) (σ.1 4 i) := h.2.2.2.2.1
theorem m_inv.am {σ : jm} (h : m_inv σ) : ∀ i, i < 4 → jb (σ.1 6 i) 12 := h.2.2.2.2.2.1
theorem m_inv.ao {σ : jm} (h : m_inv σ) : ∀ i, i < 48 → jb (σ.1 7 i) 10 := h.2.2.2.2.2.2.1
theorem m_inv.ki {σ : jm} (h : m_inv σ) : ∀ c, c < 16 → jb (σ.1 9 c) 6 ∧ (3 ≤ nv (σ.1 9 c) → nv (σ.1 9 c) - 3 < nv (σ.1 0 4)) := h.2.2.2.2.2.2.2.1
theorem m_inv.bo {σ : jm} (h : m_inv σ) : ∀ j, j01 (σ.1 25 j) ∧ j01 (σ.1 27 j) ∧ j01 (σ.1 29 j) ∧ j01 (σ.1 31 j) ∧ j01 (σ.1 39 j) ∧ j01 (σ.1 41 j) := h.2.2.2.2.2.2.2.2.1
theorem m_inv.rk {σ : jm} (h : m_inv σ) : σ.1 0 10 = 1 → 1 ≤ nv (σ.1 0 11) ∧ ∀ c, c < 16 → 3 ≤ nv (σ.1 9 c) → m_right (nv (σ.1 9 c) - 3) σ = true := h.2.2.2.2.2.2.2.2.2.1
theorem m_inv.r0 {σ : jm} (h : m_inv σ) : σ.1 0 10 = 0 → σ.1 0 11 = 0 := h.2.2.2.2.2.2.2.2.2.2.1
theorem m_inv.ts {σ : jm} (h : m_inv σ) : σ.1 0 11 = nI (nv (σ.1 0 11)) ∧ σ.1 0 36 = nI (nv (σ.1 0 36)) ∧ nv (σ.1 0 36) = 2 * nv (σ.1 0 11) - 1 ∧ (nv (σ.1 0 11) = 0 ∨ nv (σ.1 0 11) + m_cap σ (nv (σ.1 0 11)) = 40) := h.2.2.2.2.2.2.2.2.2.2.2.1
theorem m_inv.un {σ : jm} (h : m_inv σ) : ∀ s, s < nv (σ.1 0 36) → m_ch s (σ.1 38 s) := h.2.2.2.2.2.2.2.2.2.2.2.2.1
theorem m_inv.tk {σ : jm} (h : m_inv σ) : ∀ t, t < nv (σ.1 0 11) → m_t1 σ t := h.2.2.2.2.2.2.2.2.2.2.2.2.2.1
theorem m_inv.li {σ : jm} (h : m_inv σ) : m_lin σ := h.2.2.2.2.2.2.2.2.2.2.2.2.2.2

theorem m_inv.T {σ : jm} (h : m_inv σ) : nv (σ.1 0 11) ≤ 40 := by
  rcases h.ts.2.2.2 with q | q <;> omega
theorem m_inv.S {σ : jm} (h : m_inv σ) : nv (σ.1 0 36) ≤ 79 := by
  have := h.T
  have := h.ts.2.2.1
  omega
theorem m_inv.und {σ : jm} (h : m_inv σ) : m_und σ := ⟨Nat.le_trans h.S (by decide), h.un⟩
theorem m_hv.nv {σ : jm} {v : Int64} (h : m_hv σ v) (hT : nv (σ.1 0 11) ≤ 40) : v.toInt32 = nI (nv v.toInt32) ∧ nv v.toInt32 < nv (σ.1 0 11) ∧ v = v.toInt32.toInt64 := by
  obtain ⟨o, h1, rfl⟩ := h
  rw [in_c, nv_nI (by omega)]
  exact ⟨rfl, h1, rfl⟩
theorem m_inv.hh {σ : jm} (h : m_inv σ) {t : Nat} (ht : t < nv (σ.1 0 11)) : ¬ σ.1 32 t = 0 → ¬ σ.1 31 (12 * t + nv (σ.1 32 t) - 1) = 0 → jb (σ.2 30 (12 * t + nv (σ.1 32 t) - 1)).toInt32 84 := by
  intro h1 h2
  have hp := (h.tk t ht).po.1
  have h3 : 1 ≤ nv (σ.1 32 t) := by
    rcases Nat.eq_zero_or_pos (nv (σ.1 32 t)) with q | q
    · exfalso; apply h1; rw [hp.1, q]; rfl
    · exact q
  have e : 12 * t + nv (σ.1 32 t) - 1 = 12 * t + (nv (σ.1 32 t) - 1) := by omega
  rw [e] at h2 ⊢
  have := ((h.tk t ht).ph _ (by omega) h2).nv h.T
  have hT := h.T
  exact ⟨this.1, by omega⟩
theorem m_inv.pl39 {σ : jm} (h : m_inv σ) {t : Nat} (ht : t < nv (σ.1 0 11)) (h0 : σ.1 15 t = 0) : jb (σ.1 14 t) 39 := by
  have h1 := (h.tk t ht).pl
  have h2 := (h.tk t ht).blk
  have h3 := h.bl.2
  have h4 := h.cm (nv (σ.1 13 t)) (by omega)
  have h5 := h1.2 h0
  have h6 := h4.2
  exact ⟨h1.1.1, by omega⟩
theorem w_stand (G : jj_G) (σ : jm) (t : Nat) (hv : m_inv σ) (ht : t < nv (σ.1 0 11)) : jm_M G yX25_standing cX25_standing 2 (some .int) 1 23 [jI (nI t)] σ σ (some (jI (m_stand t σ))) :=
  have hT := hv.T
  w_standing G σ t (by omega) (hv.tk t ht).blk.1 (hv.pl39 ht) (hv.tk t ht).po.1 (hv.hh ht)
theorem w_waits (G : jj_G) (σ : jm) (t : Nat) (hv : m_inv σ) (ht : t < nv (σ.1 0 11)) : jm_M G yX25_waitsFor cX25_waitsFor 4 (some .int) 0 0 [jI (nI t)] σ σ (some (jI (m_waits t σ))) :=
  have hT := hv.T
  w_waitsFor G σ t (by omega) (hv.tk t ht).blk.1 (hv.pl39 ht) (hv.tk t ht).po.1 (hv.hh ht)
