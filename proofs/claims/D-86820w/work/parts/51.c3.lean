set_option maxRecDepth 100000
/-! bits of 'has' -/
theorem cs_lt (σ : jm) (s : Nat) : ∀ n, cr_sb σ s n < 2 ^ n := by
  intro n
  induction n with
  | zero => exact Nat.lt_of_lt_of_le Nat.zero_lt_one (Nat.le_refl _)
  | succ n ih =>
    unfold cr_sb
    rw [Nat.pow_succ]
    split <;> omega
theorem cs_div (σ : jm) (s : Nat) : ∀ n c, c < n → cr_sb σ s n / 2 ^ c % 2 = if σ.1 39 (16 * s + c) = 0 then 0 else 1 := by
  intro n
  induction n with
  | zero => intro c hc; exact absurd hc (Nat.not_lt_zero _)
  | succ n ih =>
    intro c hc
    unfold cr_sb
    rcases Nat.lt_or_ge c n with q | q
    · by_cases h : σ.1 39 (16 * s + n) = 0
      · rw [if_pos h, Nat.add_zero]; exact ih c q
      · rw [if_neg h]
        obtain ⟨d, rfl⟩ : ∃ d, n = c + (d + 1) := ⟨n - c - 1, by omega⟩
        rw [show 2 ^ (c + (d + 1)) = 2 ^ c * (2 * 2 ^ d) by rw [Nat.pow_add, Nat.pow_succ, Nat.mul_comm (2 ^ d) 2], Nat.add_mul_div_left _ _ (Nat.two_pow_pos c), ← ih c q, Nat.add_mul_mod_self_left]
    · have e : c = n := by omega
      subst e
      have h9 := cs_lt σ s c
      by_cases h : σ.1 39 (16 * s + c) = 0
      · rw [if_pos h, if_pos h, Nat.add_zero, Nat.div_eq_of_lt h9]
      · rw [if_neg h, if_neg h, Nat.add_div_right _ (Nat.two_pow_pos c), Nat.div_eq_of_lt h9]
theorem bt_nI {k i : Nat} (hi : i < 32) : bt (nI k) i = decide (k / 2 ^ i % 2 = 1) := by
  show (BitVec.ofNat 32 k).getLsbD i = _
  rw [BitVec.getLsbD_ofNat, decide_eq_true hi, Bool.true_and, Nat.testBit_eq_decide_div_mod_eq]
theorem bt_1 : ∀ i, i < 32 → bt 1 i = decide (i = 0) := by decide +kernel
theorem and1_iff (y : Int32) : (y &&& 1) = 1 ↔ bt y 0 = true := by
  constructor
  · intro h
    have h2 := b_and y 1 0
    rw [h, bt_1 0 (by decide)] at h2
    cases hb : bt y 0 with
    | true => rfl
    | false => rw [hb] at h2; exact absurd h2 (by decide)
  · intro h
    apply b_ext
    intro i hi
    rw [b_and, bt_1 i hi]
    by_cases h0 : i = 0
    · subst h0; rw [h]; rfl
    · rw [decide_eq_false h0, Bool.and_false]
theorem cs_has {σ : jm} {s c : Nat} (hc : c < 16) : ((nI (cr_sb σ s 16) >>> (nI c &&& 31)) &&& 1) = 1 ↔ ¬ σ.1 39 (16 * s + c) = 0 := by
  rw [and1_iff, b_sshr c (by omega) _ (by decide), if_pos (by omega), Nat.add_zero, bt_nI (by omega), cs_div σ s 16 c hc, decide_eq_true_iff]
  by_cases h : σ.1 39 (16 * s + c) = 0
  · rw [if_pos h]; exact ⟨fun z => absurd z (by decide), fun z => absurd h z⟩
  · rw [if_neg h]; exact ⟨fun _ => h, fun _ => rfl⟩
theorem cs_write {σ : jm} {s c : Nat} {v : Int32} (hv : ¬ v = 0) (hc : c < 16) : nI (cr_sb σ s 16) ||| ((1 : Int32) <<< (nI c &&& 31)) = nI (cr_sb (m_u σ 39 (16 * s + c) v) s 16) := by
  apply b_ext
  intro i hi
  rw [b_or, b_shl c (by omega) _ hi, bt_1 (i - c) (by omega), bt_nI hi, bt_nI hi]
  rcases Nat.lt_or_ge i 16 with q | q
  · rw [cs_div σ s 16 i q, cs_div _ s 16 i q, m_u_1]
    by_cases h : i = c
    · subst h
      rw [jj_us, if_neg hv, decide_eq_true (Nat.le_refl _), Nat.sub_self]
      simp
    · rw [jj_un (Or.inr (by omega))]
      rcases Nat.lt_or_ge i c with z | z
      · rw [decide_eq_false (show ¬ c ≤ i by omega), Bool.false_and, Bool.or_false]
      · rw [decide_eq_false (show ¬ i - c = 0 by omega), Bool.and_false, Bool.or_false]
  · have p : ∀ k : Nat, k < 2 ^ 16 → k / 2 ^ i % 2 = 0 := fun k hk => by
      rw [Nat.div_eq_of_lt (Nat.lt_of_lt_of_le hk (Nat.pow_le_pow_right (by decide) q))]
    rw [p _ (cs_lt _ _ _), p _ (cs_lt _ _ _), decide_eq_false (show ¬ i - c = 0 by omega), Bool.and_false, Bool.or_false]
/-- how many -/
def cs_n (σ : jm) (s : Nat) : Nat → Nat
  | 0 => 0
  | n + 1 => cs_n σ s n + (if σ.1 39 (16 * s + n) = 0 then 0 else 1)
theorem cs_cnt (σ : jm) (s : Nat) : bc_p (cr_sb σ s 16) 16 = cs_n σ s 16 := by
  have h : ∀ n, n ≤ 16 → bc_p (cr_sb σ s 16) n = cs_n σ s n := by
    intro n
    induction n with
    | zero => intro _; rfl
    | succ n ih =>
      intro hn
      unfold bc_p cs_n
      rw [ih (by omega), cs_div σ s 16 n (by omega)]
  exact h 16 (Nat.le_refl _)
