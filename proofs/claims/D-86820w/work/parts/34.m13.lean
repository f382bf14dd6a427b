set_option maxRecDepth 100000

/-- a step keeps it all -/
def m_keep : Prop := ∀ (σ : jm) (t : Nat), m_inv σ → t < nv (σ.1 0 11) → m_stand t σ = 0 → m_inv (m_step t σ) ∧ nv (σ.1 0 11) ≤ nv ((m_step t σ).1 0 11) ∧ (m_step t σ).1 0 10 = σ.1 0 10
def m_one (G : jj_G) : Prop := ∀ (σ : jm) (t : Nat), m_inv σ → t < nv (σ.1 0 11) → m_stand t σ = 0 → jm_M G yX25_oneStep cX25_oneStep 15 none 5 141 [jI (nI t)] σ (m_step t σ) none
def m_run (t : Nat) : Nat → jm → jm
  | 0, σ => σ
  | n + 1, σ => if m_stand t σ = 0 then m_run t n (m_step t σ) else σ
def m_stepS (σ : jm) (t n : Int32) : jm := if m_isT σ t then (if (1 : Int64) ≤ n.toInt64 ∧ n.toInt64 ≤ (300 : Int64) then m_run (nv t) (nv n) σ else σ) else σ
def m_stepV (σ : jm) (t n : Int32) : Int32 := if m_isT σ t then (if (1 : Int64) ≤ n.toInt64 ∧ n.toInt64 ≤ (300 : Int64) then m_stand (nv t) (m_run (nv t) (nv n) σ) else -1) else -1
theorem in_1 {x : Int32} {c : Int64} (N : Nat) (hc : c.toInt = N) (h : (1 : Int64) ≤ x.toInt64 ∧ x.toInt64 ≤ c) : x = nI (nv x) ∧ 1 ≤ nv x ∧ nv x ≤ N := by
  obtain ⟨h1, h2⟩ := h
  rw [Int64.le_iff_toInt_le, in_x] at h1 h2
  have h3 : (1 : Int64).toInt = 1 := rfl
  obtain ⟨e, h4⟩ := in_nv (x := x) (n := N + 1) (by omega) (by rw [hc] at h2; omega)
  refine ⟨e, ?_, by omega⟩
  have e2 : nv x = x.toInt.toNat := rfl
  omega
def m_rdy (σ : jm) (i : Int32) : Nat → Nat → Nat → Int32
  | 0, _, _ => -4
  | f + 1, t, n => if m_stand t σ = 0 then (if nI n = i then nI t else m_rdy σ i f (t + 1) (n + 1)) else m_rdy σ i f (t + 1) n
def m_ready (σ : jm) (i : Int32) : Int32 := m_rdy σ i (nv (σ.1 0 11)) 0 0
def m_rmc (σ : jm) : Nat → Nat → Nat → Nat
  | 0, _, c => c
  | f + 1, t, c => m_rmc σ f (t + 1) (if m_stand t σ = 0 then c + 1 else c)
def m_many (σ : jm) : Nat := m_rmc σ (nv (σ.1 0 11)) 0 0
theorem m_rmc_le (σ : jm) : ∀ (f t c : Nat), c ≤ m_rmc σ f t c ∧ m_rmc σ f t c ≤ c + f := by
  intro f
  induction f with
  | zero => intro t c; exact ⟨Nat.le_refl _, Nat.le_refl _⟩
  | succ f ih =>
    intro t c
    unfold m_rmc
    split
    · have := ih (t + 1) (c + 1); omega
    · have := ih (t + 1) c; omega
theorem m_rdy_ok {σ : jm} {j : Nat} (hj : j < 2147483648) : ∀ (f t n : Nat), n ≤ j → j < m_rmc σ f t n → ∃ q, m_rdy σ (nI j) f t n = nI q ∧ t ≤ q ∧ q < t + f ∧ m_stand q σ = 0 := by
  intro f
  induction f with
  | zero => intro t n h1 h2; exact absurd h2 (Nat.not_lt.mpr h1)
  | succ f ih =>
    intro t n h1 h2
    unfold m_rdy
    unfold m_rmc at h2
    by_cases h : m_stand t σ = 0
    · rw [if_pos h] at h2 ⊢
      by_cases h3 : nI n = nI j
      · rw [if_pos h3]
        exact ⟨t, rfl, Nat.le_refl _, by omega, h⟩
      · rw [if_neg h3]
        have h4 : n ≠ j := fun q => h3 (by rw [q])
        obtain ⟨q, q1, q2, q3, q4⟩ := ih (t + 1) (n + 1) (by omega) h2
        exact ⟨q, q1, by omega, by omega, q4⟩
    · rw [if_neg h] at h2 ⊢
      obtain ⟨q, q1, q2, q3, q4⟩ := ih (t + 1) n h1 h2
      exact ⟨q, q1, by omega, by omega, q4⟩
theorem m_ready_ok {σ : jm} (hv : m_inv σ) {j : Nat} (h : j < m_many σ) : m_ready σ (nI j) = nI (nv (m_ready σ (nI j))) ∧ nv (m_ready σ (nI j)) < nv (σ.1 0 11) ∧ m_stand (nv (m_ready σ (nI j))) σ = 0 := by
  have hT := hv.T
  have h1 := (m_rmc_le σ (nv (σ.1 0 11)) 0 0).2
  have h2 : m_many σ = m_rmc σ (nv (σ.1 0 11)) 0 0 := rfl
  obtain ⟨q, q1, q2, q3, q4⟩ := m_rdy_ok (σ := σ) (j := j) (by omega) (nv (σ.1 0 11)) 0 0 (Nat.zero_le _) (by rw [← h2]; exact h)
  have e : m_ready σ (nI j) = nI q := q1
  rw [e, nv_nI (by omega)]
  exact ⟨rfl, by omega, q4⟩
def m_dp : Nat → Nat → jm → Nat × jm
  | 0, d, σ => (d, σ)
  | f + 1, d, σ => if m_many σ = 0 then (d, σ) else m_dp f (d + 1) (m_step (nv (m_ready σ (nI (m_many σ - 1)))) σ)
def m_rs (s : Int64) : Int64 := (s * 1103515245 + 12345) &&& 2147483647
def m_ri (s : Int64) (m : Nat) : Int32 := (s / 65536 - s / 65536 / (nI m).toInt64 * (nI m).toInt64).toInt32
def m_dr : Nat → Nat → Int64 → jm → Nat × jm
  | 0, d, _, σ => (d, σ)
  | f + 1, d, s, σ => if m_many σ = 0 then (d, σ) else m_dr f (d + 1) (m_rs s) (m_step (nv (m_ready σ (m_ri (m_rs s) (m_many σ)))) σ)
def m_deepR (σ : jm) (n : Int32) : Int32 × jm := if (1 : Int64) ≤ n.toInt64 ∧ n.toInt64 ≤ (2000 : Int64) then (if σ.1 0 10 = 0 then (-2, σ) else (nI (m_dp (nv n) 0 σ).1, (m_dp (nv n) 0 σ).2)) else (-1, σ)
def m_drawnR (σ : jm) (s n : Int32) : Int32 × jm := if s < 0 then (-1, σ) else if (1 : Int64) ≤ n.toInt64 ∧ n.toInt64 ≤ (2000 : Int64) then (if σ.1 0 10 = 0 then (-2, σ) else (nI (m_dr (nv n) 0 s.toInt64 σ).1, (m_dr (nv n) 0 s.toInt64 σ).2)) else (-1, σ)
theorem lN_and (x : Int64) : x &&& 2147483647 = lN (x.toBitVec.toNat % 2 ^ 31) := by
  apply Int64.toBitVec_inj.mp
  apply BitVec.eq_of_toNat_eq
  rw [Int64.toBitVec_and, BitVec.toNat_and]
  have e : (2147483647 : Int64).toBitVec.toNat = 2 ^ 31 - 1 := by decide
  rw [e, Nat.and_two_pow_sub_one_eq_mod]
  have h : x.toBitVec.toNat % 2 ^ 31 < 2 ^ 31 := Nat.mod_lt _ (by decide)
  generalize x.toBitVec.toNat % 2 ^ 31 = k at h
  show k = (Int64.ofNat k).toBitVec.toNat
  rw [Int64.toBitVec_ofNat']
  rw [BitVec.toNat_ofNat, Nat.mod_eq_of_lt (by omega)]
theorem m_ri_ok (s : Int64) {m : Nat} (h : 0 < m) (hm : m < 2147483648) : ∃ j, j < m ∧ m_ri (m_rs s) m = nI j := by
  unfold m_ri m_rs
  rw [lN_and, show (65536 : Int64) = lN 65536 from rfl, nI_l hm]
  have h1 : (s * 1103515245 + 12345).toBitVec.toNat % 2 ^ 31 < 2 ^ 31 := Nat.mod_lt _ (by decide)
  generalize (s * 1103515245 + 12345).toBitVec.toNat % 2 ^ 31 = k at h1
  rw [pk_lDiv (by omega) (by decide) (by decide), pk_lRem (Nat.lt_of_le_of_lt (Nat.div_le_self _ _) (by omega)) h (by omega), lN_i]
  exact ⟨_, Nat.mod_lt _ h, rfl⟩

theorem w_many_l {X : jj_X} (hX : jj_ok X cX25_readyMany "BranchCellsModel" 3 2 44 0 0) (hr : jj_Ret X (some .int)) (σ : jm) (hv : m_inv σ) : ∀ (n t c : Nat), t + n = nv (σ.1 0 11) → jj_J X (jj_End X (jj_eq (some (jI (nI (m_rmc σ n t c)))) jm_T σ.1 σ.2 jm_R) jj_no 0 0) 0 0 4 [(0, jR (some 0)), (1, jI (nI c)), (2, jI (nI t))] [] jm_T σ.1 σ.2 jm_R := by
  have hT := hv.T
  intro n
  induction n with
  | zero =>
    intro t c hn
    have h9 : σ.1 0 11 ≤ nI t := by rw [hv.ts.1]; exact nI_le (by omega) (by omega)
    unfold m_rmc
    refine jj_iload_n (pc := 4) hX dX25_readyMany_4 rfl ?_
    refine jj_aload_n (pc := 5) hX dX25_readyMany_5 rfl ?_
    refine jj_getI (pc := 6) hX fl_X25_160_25 dX25_readyMany_6 rfl rfl ?_
    refine jj_icmp_ge (pc := 9) hX 34 dX25_readyMany_9 rfl (fun _ => ?_) (fun q => absurd h9 q)
    refine jj_iload_n (pc := 34) hX dX25_readyMany_34 rfl ?_
    exact jj_iret (pc := 35) hX dX25_readyMany_35 hr ⟨Nat.le_refl _, Nat.le_refl _⟩ (⟨rfl, rfl, rfl, rfl, rfl⟩)
  | succ n ih =>
    intro t c hn
    have h9 : ¬ σ.1 0 11 ≤ nI t := by rw [hv.ts.1]; exact nI_ge (by omega) (by omega)
    unfold m_rmc
    refine jj_iload_n (pc := 4) hX dX25_readyMany_4 rfl ?_
    refine jj_aload_n (pc := 5) hX dX25_readyMany_5 rfl ?_
    refine jj_getI (pc := 6) hX fl_X25_160_25 dX25_readyMany_6 rfl rfl ?_
    refine jj_icmp_ge (pc := 9) hX 34 dX25_readyMany_9 rfl (fun q => absurd q h9) (fun _ => ?_)
    refine jj_iload_n (pc := 12) hX dX25_readyMany_12 rfl ?_
    refine jj_aload_n (pc := 13) hX dX25_readyMany_13 rfl ?_
    refine jj_iload_n (pc := 14) hX dX25_readyMany_14 rfl ?_
    refine jj_callV (pc := 15) hX (w_stand X.1 σ _ hv (by omega)) dX25_readyMany_15 (lw_V q1664 q1666 qs31 q78 q1667) rfl ⟨by decide +kernel, by decide +kernel, by show _ = some (1 : Nat); decide +kernel⟩ ⟨Nat.le_of_ble_eq_true rfl, Nat.le_of_ble_eq_true rfl, Nat.le_of_ble_eq_true rfl, Nat.le_of_ble_eq_true rfl, Nat.le_of_ble_eq_true rfl⟩ (fun q => by cases q) rfl jc_25 rfl (jj_keq ?_) jj_kno
    refine jj_if_ne (pc := 18) hX 25 dX25_readyMany_18 rfl (fun h18 => ?_) (fun h18 => ?_)
    · refine jj_iconst (pc := 25) hX (v := 0) dX25_readyMany_25 (by decide) ?_
      refine jj_iadd (pc := 26) hX dX25_readyMany_26 ?_
      refine jj_top (nI c) (nI_add c 0) ?_
      refine jj_istore_n (pc := 27) hX dX25_readyMany_27 (by decide) ?_
      refine jj_iinc (pc := 28) hX (v := nI (t + 1)) dX25_readyMany_28 rfl (ix_inc rfl) (by decide) ?_
      refine jj_goto (pc := 31) hX 4 dX25_readyMany_31 rfl ?_
      rw [if_neg h18]
      refine jj_ls [(0, jR (some 0)), (1, jI (nI c)), (2, jI (nI (t + 1)))] ⟨rfl, rfl, rfl, trivial⟩ ?_
      exact ih (t + 1) c (by omega)
    · refine jj_iconst (pc := 21) hX (v := 1) dX25_readyMany_21 (by decide) ?_
      refine jj_goto (pc := 22) hX 26 dX25_readyMany_22 rfl ?_
      refine jj_iadd (pc := 26) hX dX25_readyMany_26 ?_
      refine jj_top (nI (c + 1)) (nI_add c 1) ?_
      refine jj_istore_n (pc := 27) hX dX25_readyMany_27 (by decide) ?_
      refine jj_iinc (pc := 28) hX (v := nI (t + 1)) dX25_readyMany_28 rfl (ix_inc rfl) (by decide) ?_
      refine jj_goto (pc := 31) hX 4 dX25_readyMany_31 rfl ?_
      rw [if_pos h18]
      refine jj_ls [(0, jR (some 0)), (1, jI (nI (c + 1))), (2, jI (nI (t + 1)))] ⟨rfl, rfl, rfl, trivial⟩ ?_
      exact ih (t + 1) (c + 1) (by omega)

theorem w_readyMany (G : jj_G) (σ : jm) (hv : m_inv σ) : jm_M G yX25_readyMany cX25_readyMany 3 (some .int) 2 44 [] σ σ (some (jI (nI (m_many σ)))) := by
  refine jj_intro "BranchCellsModel" (by decide) rfl (Nat.le_of_ble_eq_true rfl) ?_
  intro X hG hX hr hN hC hF
  subst hG
  refine jj_iconst (pc := 0) hX (v := 0) dX25_readyMany_0 (by decide) ?_
  refine jj_istore_n (pc := 1) hX dX25_readyMany_1 (by decide) ?_
  refine jj_iconst (pc := 2) hX (v := 0) dX25_readyMany_2 (by decide) ?_
  refine jj_istore_n (pc := 3) hX dX25_readyMany_3 (by decide) ?_
  refine jj_ls [(0, jR (some 0)), (1, jI (nI 0)), (2, jI (nI 0))] ⟨rfl, rfl, rfl, trivial⟩ ?_
  exact w_many_l hX hr σ hv (nv (σ.1 0 11)) 0 0 (Nat.zero_add _)

theorem w_ready_l {X : jj_X} (hX : jj_ok X cX25_ready "BranchCellsModel" 4 2 44 0 0) (hr : jj_Ret X (some .int)) (σ : jm) (hv : m_inv σ) (i : Int32) : ∀ (f t n : Nat), t + f = nv (σ.1 0 11) → jj_J X (jj_End X (jj_eq (some (jI (m_rdy σ i f t n))) jm_T σ.1 σ.2 jm_R) jj_no 0 0) 0 0 4 [(0, jR (some 0)), (1, jI i), (2, jI (nI n)), (3, jI (nI t))] [] jm_T σ.1 σ.2 jm_R := by
  have hT := hv.T
  intro f
  induction f with
  | zero =>
    intro t n hn
    have h9 : σ.1 0 11 ≤ nI t := by rw [hv.ts.1]; exact nI_le (by omega) (by omega)
    unfold m_rdy
    refine jj_iload_n (pc := 4) hX dX25_ready_4 rfl ?_
    refine jj_aload_n (pc := 5) hX dX25_ready_5 rfl ?_
    refine jj_getI (pc := 6) hX fl_X25_160_25 dX25_ready_6 rfl rfl ?_
    refine jj_icmp_ge (pc := 9) hX 36 dX25_ready_9 rfl (fun _ => ?_) (fun q => absurd h9 q)
    refine jj_bipush (pc := 36) hX (v := (-4)) dX25_ready_36 (by decide) ?_
    exact jj_iret (pc := 38) hX dX25_ready_38 hr ⟨Nat.le_refl _, Nat.le_refl _⟩ (⟨rfl, rfl, rfl, rfl, rfl⟩)
  | succ n ih =>
    intro t n hn
    have h9 : ¬ σ.1 0 11 ≤ nI t := by rw [hv.ts.1]; exact nI_ge (by omega) (by omega)
    unfold m_rdy
    refine jj_iload_n (pc := 4) hX dX25_ready_4 rfl ?_
    refine jj_aload_n (pc := 5) hX dX25_ready_5 rfl ?_
    refine jj_getI (pc := 6) hX fl_X25_160_25 dX25_ready_6 rfl rfl ?_
    refine jj_icmp_ge (pc := 9) hX 36 dX25_ready_9 rfl (fun q => absurd q h9) (fun _ => ?_)
    refine jj_aload_n (pc := 12) hX dX25_ready_12 rfl ?_
    refine jj_iload_n (pc := 13) hX dX25_ready_13 rfl ?_
    refine jj_callV (pc := 14) hX (w_stand X.1 σ _ hv (by omega)) dX25_ready_14 (lw_V q1664 q1666 qs31 q78 q1667) rfl ⟨by decide +kernel, by decide +kernel, by show _ = some (1 : Nat); decide +kernel⟩ ⟨Nat.le_of_ble_eq_true rfl, Nat.le_of_ble_eq_true rfl, Nat.le_of_ble_eq_true rfl, Nat.le_of_ble_eq_true rfl, Nat.le_of_ble_eq_true rfl⟩ (fun q => by cases q) rfl jc_25 rfl (jj_keq ?_) jj_kno
    refine jj_if_ne (pc := 17) hX 30 dX25_ready_17 rfl (fun h17 => ?_) (fun h17 => ?_)
    · refine jj_iinc (pc := 30) hX (v := nI (t + 1)) dX25_ready_30 rfl (ix_inc rfl) (by decide) ?_
      refine jj_goto (pc := 33) hX 4 dX25_ready_33 rfl ?_
      rw [if_neg h17]
      refine jj_ls [(0, jR (some 0)), (1, jI i), (2, jI (nI n)), (3, jI (nI (t + 1)))] ⟨rfl, rfl, rfl, rfl, trivial⟩ ?_
      exact ih (t + 1) n (by omega)
    · refine jj_iload_n (pc := 20) hX dX25_ready_20 rfl ?_
      refine jj_iload_n (pc := 21) hX dX25_ready_21 rfl ?_
      refine jj_icmp_ne (pc := 22) hX 27 dX25_ready_22 rfl (fun h22 => ?_) (fun h22 => ?_)
      · refine jj_iinc (pc := 27) hX (v := nI (n + 1)) dX25_ready_27 rfl (ix_inc rfl) (by decide) ?_
        refine jj_iinc (pc := 30) hX (v := nI (t + 1)) dX25_ready_30 rfl (ix_inc rfl) (by decide) ?_
        refine jj_goto (pc := 33) hX 4 dX25_ready_33 rfl ?_
        rw [if_pos h17, if_neg h22]
        refine jj_ls [(0, jR (some 0)), (1, jI i), (2, jI (nI (n + 1))), (3, jI (nI (t + 1)))] ⟨rfl, rfl, rfl, rfl, trivial⟩ ?_
        exact ih (t + 1) (n + 1) (by omega)
      · refine jj_iload_n (pc := 25) hX dX25_ready_25 rfl ?_
        refine jj_iret (pc := 26) hX dX25_ready_26 hr ⟨Nat.le_refl _, Nat.le_refl _⟩ ?_
        rw [if_pos h17, if_pos h22]
        exact ⟨rfl, rfl, rfl, rfl, rfl⟩

theorem w_ready (G : jj_G) (σ : jm) (hv : m_inv σ) (i : Int32) : jm_M G yX25_ready cX25_ready 4 (some .int) 2 44 [jI i] σ σ (some (jI (m_ready σ i))) := by
  refine jj_intro "BranchCellsModel" (by decide) rfl (Nat.le_of_ble_eq_true rfl) ?_
  intro X hG hX hr hN hC hF
  subst hG
  refine jj_iconst (pc := 0) hX (v := 0) dX25_ready_0 (by decide) ?_
  refine jj_istore_n (pc := 1) hX dX25_ready_1 (by decide) ?_
  refine jj_iconst (pc := 2) hX (v := 0) dX25_ready_2 (by decide) ?_
  refine jj_istore_n (pc := 3) hX dX25_ready_3 (by decide) ?_
  refine jj_ls [(0, jR (some 0)), (1, jI i), (2, jI (nI 0)), (3, jI (nI 0))] ⟨rfl, rfl, rfl, rfl, trivial⟩ ?_
  exact w_ready_l hX hr σ hv i (nv (σ.1 0 11)) 0 0 (Nat.zero_add _)

theorem w_step_l {X : jj_X} (hX : jj_ok X cX25_step "BranchCellsModel" 4 6 175 0 0) (hr : jj_Ret X (some .int)) (hk : m_keep) (ho : m_one X.1) (t N : Nat) (hN : N ≤ 300) (σe : jm) : ∀ (f k : Nat) (σ : jm), k + f = N → m_inv σ → t < nv (σ.1 0 11) → m_run t f σ = σe → jj_J X (jj_End X (jj_eq (some (jI (m_stand t σe))) jm_T σe.1 σe.2 jm_R) jj_no 0 0) 0 0 24 [(0, jR (some 0)), (1, jI (nI t)), (2, jI (nI N)), (3, jI (nI k))] [] jm_T σ.1 σ.2 jm_R := by
  intro f
  induction f with
  | zero =>
    intro k σ hn hv ht he
    have h9 : nI N ≤ nI k := nI_le (by omega) (by omega)
    have hT := hv.T
    unfold m_run at he
    subst he
    refine jj_iload_n (pc := 24) hX dX25_step_24 rfl ?_
    refine jj_iload_n (pc := 25) hX dX25_step_25 rfl ?_
    refine jj_icmp_ge (pc := 26) hX 48 dX25_step_26 rfl (fun _ => ?_) (fun q => absurd h9 q)
    refine jj_aload_n (pc := 48) hX dX25_step_48 rfl ?_
    refine jj_iload_n (pc := 49) hX dX25_step_49 rfl ?_
    refine jj_callV (pc := 50) hX (w_stand X.1 σ _ hv ht) dX25_step_50 (lw_V q1664 q1666 qs31 q78 q1667) rfl ⟨by decide +kernel, by decide +kernel, by show _ = some (1 : Nat); decide +kernel⟩ ⟨Nat.le_of_ble_eq_true rfl, Nat.le_of_ble_eq_true rfl, Nat.le_of_ble_eq_true rfl, Nat.le_of_ble_eq_true rfl, Nat.le_of_ble_eq_true rfl⟩ (fun q => by cases q) rfl jc_25 rfl (jj_keq ?_) jj_kno
    exact jj_iret (pc := 53) hX dX25_step_53 hr ⟨Nat.le_refl _, Nat.le_refl _⟩ (⟨rfl, rfl, rfl, rfl, rfl⟩)
  | succ n ih =>
    intro k σ hn hv ht he
    have h9 : ¬ nI N ≤ nI k := nI_ge (by omega) (by omega)
    have hT := hv.T
    unfold m_run at he
    refine jj_iload_n (pc := 24) hX dX25_step_24 rfl ?_
    refine jj_iload_n (pc := 25) hX dX25_step_25 rfl ?_
    refine jj_icmp_ge (pc := 26) hX 48 dX25_step_26 rfl (fun q => absurd q h9) (fun _ => ?_)
    refine jj_aload_n (pc := 29) hX dX25_step_29 rfl ?_
    refine jj_iload_n (pc := 30) hX dX25_step_30 rfl ?_
    refine jj_callV (pc := 31) hX (w_stand X.1 σ _ hv ht) dX25_step_31 (lw_V q1664 q1666 qs31 q78 q1667) rfl ⟨by decide +kernel, by decide +kernel, by show _ = some (1 : Nat); decide +kernel⟩ ⟨Nat.le_of_ble_eq_true rfl, Nat.le_of_ble_eq_true rfl, Nat.le_of_ble_eq_true rfl, Nat.le_of_ble_eq_true rfl, Nat.le_of_ble_eq_true rfl⟩ (fun q => by cases q) rfl jc_25 rfl (jj_keq ?_) jj_kno
    refine jj_if_ne (pc := 34) hX 48 dX25_step_34 rfl (fun h34 => ?_) (fun h34 => ?_)
    · rw [if_neg h34] at he
      subst he
      refine jj_aload_n (pc := 48) hX dX25_step_48 rfl ?_
      refine jj_iload_n (pc := 49) hX dX25_step_49 rfl ?_
      refine jj_callV (pc := 50) hX (w_stand X.1 σ _ hv ht) dX25_step_50 (lw_V q1664 q1666 qs31 q78 q1667) rfl ⟨by decide +kernel, by decide +kernel, by show _ = some (1 : Nat); decide +kernel⟩ ⟨Nat.le_of_ble_eq_true rfl, Nat.le_of_ble_eq_true rfl, Nat.le_of_ble_eq_true rfl, Nat.le_of_ble_eq_true rfl, Nat.le_of_ble_eq_true rfl⟩ (fun q => by cases q) rfl jc_25 rfl (jj_keq ?_) jj_kno
      exact jj_iret (pc := 53) hX dX25_step_53 hr ⟨Nat.le_refl _, Nat.le_refl _⟩ (⟨rfl, rfl, rfl, rfl, rfl⟩)
    · refine jj_aload_n (pc := 37) hX dX25_step_37 rfl ?_
      refine jj_iload_n (pc := 38) hX dX25_step_38 rfl ?_
      refine jj_callV (pc := 39) hX (ho σ t hv ht h34) dX25_step_39 (lw_V q1672 q1674 qs33 q78 q1675) rfl ⟨by decide +kernel, by decide +kernel, by show _ = some (1 : Nat); decide +kernel⟩ ⟨Nat.le_of_ble_eq_true rfl, Nat.le_of_ble_eq_true rfl, Nat.le_of_ble_eq_true rfl, Nat.le_of_ble_eq_true rfl, Nat.le_of_ble_eq_true rfl⟩ (fun q => by cases q) rfl jc_25 rfl (jj_keq ?_) jj_kno
      refine jj_iinc (pc := 42) hX (v := nI (k + 1)) dX25_step_42 rfl (ix_inc rfl) (by decide) ?_
      refine jj_goto (pc := 45) hX 24 dX25_step_45 rfl ?_
      rw [if_pos h34] at he
      obtain ⟨k1, k2, -⟩ := hk σ t hv ht h34
      refine jj_ls [(0, jR (some 0)), (1, jI (nI t)), (2, jI (nI N)), (3, jI (nI (k + 1)))] ⟨rfl, rfl, rfl, rfl, trivial⟩ ?_
      exact ih (k + 1) _ (by omega) k1 (Nat.lt_of_lt_of_le ht k2) he

theorem w_step (G : jj_G) (σ : jm) (hk : m_keep) (ho : m_one G) (hv : m_inv σ) (t n : Int32) : jm_M G yX25_step cX25_step 4 (some .int) 6 175 [jI t, jI n] σ (m_stepS σ t n) (some (jI (m_stepV σ t n))) := by
  refine jj_intro "BranchCellsModel" (by decide) rfl (Nat.le_of_ble_eq_true rfl) ?_
  intro X hG hX hr hN hC hF
  subst hG
  refine jj_aload_n (pc := 0) hX dX25_step_0 rfl ?_
  refine jj_iload_n (pc := 1) hX dX25_step_1 rfl ?_
  refine jj_callV (pc := 2) hX (w_isTask X.1 σ _) dX25_step_2 (lw_V q1659 q1661 qs30 q78 q1662) rfl ⟨by decide +kernel, by decide +kernel, by show _ = some (1 : Nat); decide +kernel⟩ ⟨Nat.le_of_ble_eq_true rfl, Nat.le_of_ble_eq_true rfl, Nat.le_of_ble_eq_true rfl, Nat.le_of_ble_eq_true rfl, Nat.le_of_ble_eq_true rfl⟩ (fun q => by cases q) rfl jc_25 rfl (jj_kif (fun ht9 => ?_) (fun ht9 => ?_)) jj_kno
  · obtain ⟨e9, l9⟩ := m_isT.nv hv ht9
    have hT9 := hv.T
    refine jj_if_eq (pc := 5) hX 20 dX25_step_5 rfl (fun q => absurd q (by decide)) (fun _ => ?_)
    refine jj_iload_n (pc := 8) hX dX25_step_8 rfl ?_
    refine jj_i2l (pc := 9) hX dX25_step_9 ?_
    refine jj_lconst (pc := 10) hX (v := 1) dX25_step_10 (by decide) ?_
    refine jj_ldc2 (pc := 11) hX (v := 300) q1663 dX25_step_11 ?_
    refine jj_callS (pc := 14) hX (w_in X.1 _ _ _ _ _ _ _) dX25_step_14 (lw_S q1588 q1589 q78 q1590) ⟨by decide +kernel, by decide +kernel, by show _ = some (3 : Nat); decide +kernel⟩ ⟨Nat.le_of_ble_eq_true rfl, Nat.le_of_ble_eq_true rfl, Nat.le_of_ble_eq_true rfl, Nat.le_of_ble_eq_true rfl, Nat.le_of_ble_eq_true rfl⟩ (fun q => by cases q) rfl (jj_kif (fun hn9 => ?_) (fun hn9 => ?_)) jj_kno
    · refine jj_if_ne (pc := 17) hX 22 dX25_step_17 rfl (fun _ => ?_) (fun q => absurd q (by decide))
      refine jj_iconst (pc := 22) hX (v := 0) dX25_step_22 (by decide) ?_
      refine jj_istore_n (pc := 23) hX dX25_step_23 (by decide) ?_
      obtain ⟨e8, l8, l7⟩ := in_1 300 rfl hn9
      refine jj_ls [(0, jR (some 0)), (1, jI (nI (nv t))), (2, jI (nI (nv n))), (3, jI (nI 0))] ⟨rfl, congrArg (fun z => some (jI z)) e9, congrArg (fun z => some (jI z)) e8, rfl, trivial⟩ ?_
      have q1 : m_stepS σ t n = m_run (nv t) (nv n) σ := by unfold m_stepS; rw [if_pos ht9, if_pos hn9]
      have q2 : m_stepV σ t n = m_stand (nv t) (m_run (nv t) (nv n) σ) := by unfold m_stepV; rw [if_pos ht9, if_pos hn9]
      rw [q1, q2]
      exact w_step_l hX hr hk ho (nv t) (nv n) l7 _ (nv n) 0 σ (Nat.zero_add _) hv l9 rfl
    · refine jj_if_ne (pc := 17) hX 22 dX25_step_17 rfl (fun q => absurd (by decide) q) (fun _ => ?_)
      refine jj_iconst (pc := 20) hX (v := (-1)) dX25_step_20 (by decide) ?_
      refine jj_iret (pc := 21) hX dX25_step_21 hr ⟨Nat.le_refl _, Nat.le_refl _⟩ ?_
      unfold m_stepS
      rw [if_pos ht9, if_neg hn9]
      unfold m_stepV
      rw [if_pos ht9, if_neg hn9]
      exact ⟨rfl, rfl, rfl, rfl, rfl⟩
  · refine jj_if_eq (pc := 5) hX 20 dX25_step_5 rfl (fun _ => ?_) (fun q => absurd (by decide) q)
    refine jj_iconst (pc := 20) hX (v := (-1)) dX25_step_20 (by decide) ?_
    refine jj_iret (pc := 21) hX dX25_step_21 hr ⟨Nat.le_refl _, Nat.le_refl _⟩ ?_
    unfold m_stepS
    rw [if_neg ht9]
    unfold m_stepV
    rw [if_neg ht9]
    exact ⟨rfl, rfl, rfl, rfl, rfl⟩

theorem w_deep_l {X : jj_X} (hX : jj_ok X cX25_deep "BranchCellsModel" 4 6 175 0 0) (hr : jj_Ret X (some .int)) (hk : m_keep) (ho : m_one X.1) (N : Nat) (hN : N ≤ 2000) (q9 : Nat) (σe : jm) : ∀ (f d : Nat) (σ : jm), d + f = N → m_inv σ → m_dp f d σ = (q9, σe) → jj_J X (jj_End X (jj_eq (some (jI (nI q9))) jm_T σe.1 σe.2 jm_R) jj_no 0 0) 0 0 31 [(0, jR (some 0)), (1, jI (nI N)), (2, jI (nI d)), (3, jI (nI (m_many σ)))] [] jm_T σ.1 σ.2 jm_R := by
  intro f
  induction f with
  | zero =>
    intro d σ hn hv he
    have h9 : nI N ≤ nI d := nI_le (by omega) (by omega)
    have hT := hv.T
    have hmT : m_many σ ≤ nv (σ.1 0 11) := by have := (m_rmc_le σ (nv (σ.1 0 11)) 0 0).2; rw [Nat.zero_add] at this; exact this
    have hm0 : ¬ nI (m_many σ) ≤ 0 → 1 ≤ m_many σ := fun q => by
      rcases Nat.eq_zero_or_pos (m_many σ) with z | z
      · exact absurd (by rw [z]; decide) q
      · exact z
    have hm1 : nI (m_many σ) ≤ 0 → m_many σ = 0 := fun q => by
      rcases Nat.eq_zero_or_pos (m_many σ) with z | z
      · exact z
      · exact absurd q (nI_nle z (by omega))
    unfold m_dp at he
    obtain ⟨rfl, rfl⟩ := Prod.mk.inj he
    refine jj_iload_n (pc := 31) hX dX25_deep_31 rfl ?_
    refine jj_iload_n (pc := 32) hX dX25_deep_32 rfl ?_
    refine jj_icmp_ge (pc := 33) hX 62 dX25_deep_33 rfl (fun _ => ?_) (fun q => absurd h9 q)
    refine jj_iload_n (pc := 62) hX dX25_deep_62 rfl ?_
    exact jj_iret (pc := 63) hX dX25_deep_63 hr ⟨Nat.le_refl _, Nat.le_refl _⟩ (⟨rfl, rfl, rfl, rfl, rfl⟩)
  | succ n ih =>
    intro d σ hn hv he
    have h9 : ¬ nI N ≤ nI d := nI_ge (by omega) (by omega)
    have hT := hv.T
    have hmT : m_many σ ≤ nv (σ.1 0 11) := by have := (m_rmc_le σ (nv (σ.1 0 11)) 0 0).2; rw [Nat.zero_add] at this; exact this
    have hm0 : ¬ nI (m_many σ) ≤ 0 → 1 ≤ m_many σ := fun q => by
      rcases Nat.eq_zero_or_pos (m_many σ) with z | z
      · exact absurd (by rw [z]; decide) q
      · exact z
    have hm1 : nI (m_many σ) ≤ 0 → m_many σ = 0 := fun q => by
      rcases Nat.eq_zero_or_pos (m_many σ) with z | z
      · exact z
      · exact absurd q (nI_nle z (by omega))
    unfold m_dp at he
    refine jj_iload_n (pc := 31) hX dX25_deep_31 rfl ?_
    refine jj_iload_n (pc := 32) hX dX25_deep_32 rfl ?_
    refine jj_icmp_ge (pc := 33) hX 62 dX25_deep_33 rfl (fun q => absurd q h9) (fun _ => ?_)
    refine jj_iload_n (pc := 36) hX dX25_deep_36 rfl ?_
    refine jj_if_le (pc := 37) hX 62 dX25_deep_37 rfl (fun h37 => ?_) (fun h37 => ?_)
    · rw [if_pos (hm1 h37)] at he
      obtain ⟨rfl, rfl⟩ := Prod.mk.inj he
      refine jj_iload_n (pc := 62) hX dX25_deep_62 rfl ?_
      exact jj_iret (pc := 63) hX dX25_deep_63 hr ⟨Nat.le_refl _, Nat.le_refl _⟩ (⟨rfl, rfl, rfl, rfl, rfl⟩)
    · have z9 := hm0 h37
      rw [if_neg (by omega)] at he
      have r9 := m_ready_ok hv (j := m_many σ - 1) (by omega)
      obtain ⟨k1, k2, -⟩ := hk σ (nv (m_ready σ (nI (m_many σ - 1)))) hv r9.2.1 r9.2.2
      refine jj_aload_n (pc := 40) hX dX25_deep_40 rfl ?_
      refine jj_aload_n (pc := 41) hX dX25_deep_41 rfl ?_
      refine jj_iload_n (pc := 42) hX dX25_deep_42 rfl ?_
      refine jj_iconst (pc := 43) hX (v := 1) dX25_deep_43 (by decide) ?_
      refine jj_isub (pc := 44) hX dX25_deep_44 ?_
      refine jj_top (nI (m_many σ - 1)) (ix_sub rfl rfl z9) ?_
      refine jj_callV (pc := 45) hX (w_ready X.1 σ hv _) dX25_deep_45 (lw_V q1734 q1722 q1723 q78 q1724) rfl ⟨by decide +kernel, by decide +kernel, by show _ = some (1 : Nat); decide +kernel⟩ ⟨Nat.le_of_ble_eq_true rfl, Nat.le_of_ble_eq_true rfl, Nat.le_of_ble_eq_true rfl, Nat.le_of_ble_eq_true rfl, Nat.le_of_ble_eq_true rfl⟩ (fun q => by cases q) rfl jc_25 rfl (jj_keq ?_) jj_kno
      refine jj_top (nI (nv (m_ready σ (nI (m_many σ - 1))))) r9.1 ?_
      refine jj_callV (pc := 48) hX (ho σ _ hv r9.2.1 r9.2.2) dX25_deep_48 (lw_V q1672 q1674 qs33 q78 q1675) rfl ⟨by decide +kernel, by decide +kernel, by show _ = some (1 : Nat); decide +kernel⟩ ⟨Nat.le_of_ble_eq_true rfl, Nat.le_of_ble_eq_true rfl, Nat.le_of_ble_eq_true rfl, Nat.le_of_ble_eq_true rfl, Nat.le_of_ble_eq_true rfl⟩ (fun q => by cases q) rfl jc_25 rfl (jj_keq ?_) jj_kno
      refine jj_iinc (pc := 51) hX (v := nI (d + 1)) dX25_deep_51 rfl (ix_inc rfl) (by decide) ?_
      refine jj_aload_n (pc := 54) hX dX25_deep_54 rfl ?_
      refine jj_callV (pc := 55) hX (w_readyMany X.1 _ k1) dX25_deep_55 (lw_V q1730 q1732 qs44 q78 q1733) rfl ⟨by decide +kernel, by decide +kernel, by show _ = some (0 : Nat); decide +kernel⟩ ⟨Nat.le_of_ble_eq_true rfl, Nat.le_of_ble_eq_true rfl, Nat.le_of_ble_eq_true rfl, Nat.le_of_ble_eq_true rfl, Nat.le_of_ble_eq_true rfl⟩ (fun q => by cases q) rfl jc_25 rfl (jj_keq ?_) jj_kno
      refine jj_istore_n (pc := 58) hX dX25_deep_58 (by decide) ?_
      refine jj_goto (pc := 59) hX 31 dX25_deep_59 rfl ?_
      refine jj_ls [(0, jR (some 0)), (1, jI (nI N)), (2, jI (nI (d + 1))), (3, jI (nI (m_many (m_step (nv (m_ready σ (nI (m_many σ - 1)))) σ))))] ⟨rfl, rfl, rfl, rfl, trivial⟩ ?_
      exact ih (d + 1) _ (by omega) k1 he

theorem w_deep (G : jj_G) (σ : jm) (hk : m_keep) (ho : m_one G) (hv : m_inv σ) (n : Int32) : jm_M G yX25_deep cX25_deep 4 (some .int) 6 175 [jI n] σ ((m_deepR σ n).2) (some (jI (m_deepR σ n).1)) := by
  refine jj_intro "BranchCellsModel" (by decide) rfl (Nat.le_of_ble_eq_true rfl) ?_
  intro X hG hX hr hN hC hF
  subst hG
  refine jj_iload_n (pc := 0) hX dX25_deep_0 rfl ?_
  refine jj_i2l (pc := 1) hX dX25_deep_1 ?_
  refine jj_lconst (pc := 2) hX (v := 1) dX25_deep_2 (by decide) ?_
  refine jj_ldc2 (pc := 3) hX (v := 2000) q1729 dX25_deep_3 ?_
  refine jj_callS (pc := 6) hX (w_in X.1 _ _ _ _ _ _ _) dX25_deep_6 (lw_S q1588 q1589 q78 q1590) ⟨by decide +kernel, by decide +kernel, by show _ = some (3 : Nat); decide +kernel⟩ ⟨Nat.le_of_ble_eq_true rfl, Nat.le_of_ble_eq_true rfl, Nat.le_of_ble_eq_true rfl, Nat.le_of_ble_eq_true rfl, Nat.le_of_ble_eq_true rfl⟩ (fun q => by cases q) rfl (jj_kif (fun hn9 => ?_) (fun hn9 => ?_)) jj_kno
  · refine jj_if_ne (pc := 9) hX 14 dX25_deep_9 rfl (fun _ => ?_) (fun q => absurd q (by decide))
    refine jj_aload_n (pc := 14) hX dX25_deep_14 rfl ?_
    refine jj_getI (pc := 15) hX fl_X25_130_25 dX25_deep_15 rfl rfl ?_
    refine jj_if_ne (pc := 18) hX 24 dX25_deep_18 rfl (fun h18 => ?_) (fun h18 => ?_)
    · refine jj_iconst (pc := 24) hX (v := 0) dX25_deep_24 (by decide) ?_
      refine jj_istore_n (pc := 25) hX dX25_deep_25 (by decide) ?_
      refine jj_aload_n (pc := 26) hX dX25_deep_26 rfl ?_
      refine jj_callV (pc := 27) hX (w_readyMany X.1 σ hv) dX25_deep_27 (lw_V q1730 q1732 qs44 q78 q1733) rfl ⟨by decide +kernel, by decide +kernel, by show _ = some (0 : Nat); decide +kernel⟩ ⟨Nat.le_of_ble_eq_true rfl, Nat.le_of_ble_eq_true rfl, Nat.le_of_ble_eq_true rfl, Nat.le_of_ble_eq_true rfl, Nat.le_of_ble_eq_true rfl⟩ (fun q => by cases q) rfl jc_25 rfl (jj_keq ?_) jj_kno
      refine jj_istore_n (pc := 30) hX dX25_deep_30 (by decide) ?_
      obtain ⟨e8, l8, l7⟩ := in_1 2000 rfl hn9
      refine jj_ls [(0, jR (some 0)), (1, jI (nI (nv n))), (2, jI (nI 0)), (3, jI (nI (m_many σ)))] ⟨rfl, congrArg (fun z => some (jI z)) e8, rfl, rfl, trivial⟩ ?_
      have q1 : m_deepR σ n = (nI (m_dp (nv n) 0 σ).1, (m_dp (nv n) 0 σ).2) := by unfold m_deepR; rw [if_pos hn9, if_neg h18]
      rw [q1]
      exact w_deep_l hX hr hk ho (nv n) l7 _ _ (nv n) 0 σ (Nat.zero_add _) hv rfl
    · refine jj_bipush (pc := 21) hX (v := (-2)) dX25_deep_21 (by decide) ?_
      refine jj_iret (pc := 23) hX dX25_deep_23 hr ⟨Nat.le_refl _, Nat.le_refl _⟩ ?_
      unfold m_deepR
      rw [if_pos hn9, if_pos h18]
      exact ⟨rfl, rfl, rfl, rfl, rfl⟩
  · refine jj_if_ne (pc := 9) hX 14 dX25_deep_9 rfl (fun q => absurd (by decide) q) (fun _ => ?_)
    refine jj_iconst (pc := 12) hX (v := (-1)) dX25_deep_12 (by decide) ?_
    refine jj_iret (pc := 13) hX dX25_deep_13 hr ⟨Nat.le_refl _, Nat.le_refl _⟩ ?_
    unfold m_deepR
    rw [if_neg hn9]
    exact ⟨rfl, rfl, rfl, rfl, rfl⟩

theorem w_drawn_l {X : jj_X} (hX : jj_ok X cX25_drawn "BranchCellsModel" 7 6 175 0 0) (hr : jj_Ret X (some .int)) (hk : m_keep) (ho : m_one X.1) (z9 : Int32) (N : Nat) (hN : N ≤ 2000) (q9 : Nat) (σe : jm) : ∀ (f d : Nat) (s : Int64) (σ : jm), d + f = N → m_inv σ → m_dr f d s σ = (q9, σe) → jj_J X (jj_End X (jj_eq (some (jI (nI q9))) jm_T σe.1 σe.2 jm_R) jj_no 0 0) 0 0 40 [(0, jR (some 0)), (1, jI z9), (2, jI (nI N)), (3, jI (nI d)), (4, jL s), (6, jI (nI (m_many σ)))] [] jm_T σ.1 σ.2 jm_R := by
  intro f
  induction f with
  | zero =>
    intro d s σ hn hv he
    have h9 : nI N ≤ nI d := nI_le (by omega) (by omega)
    have hT := hv.T
    have hmT : m_many σ ≤ nv (σ.1 0 11) := by have := (m_rmc_le σ (nv (σ.1 0 11)) 0 0).2; rw [Nat.zero_add] at this; exact this
    have hm0 : ¬ nI (m_many σ) ≤ 0 → 1 ≤ m_many σ := fun q => by
      rcases Nat.eq_zero_or_pos (m_many σ) with z | z
      · exact absurd (by rw [z]; decide) q
      · exact z
    have hm1 : nI (m_many σ) ≤ 0 → m_many σ = 0 := fun q => by
      rcases Nat.eq_zero_or_pos (m_many σ) with z | z
      · exact z
      · exact absurd q (nI_nle z (by omega))
    unfold m_dr at he
    obtain ⟨rfl, rfl⟩ := Prod.mk.inj he
    refine jj_iload_n (pc := 40) hX dX25_drawn_40 rfl ?_
    refine jj_iload_n (pc := 41) hX dX25_drawn_41 rfl ?_
    refine jj_icmp_ge (pc := 42) hX 97 dX25_drawn_42 rfl (fun _ => ?_) (fun q => absurd h9 q)
    refine jj_iload_n (pc := 97) hX dX25_drawn_97 rfl ?_
    exact jj_iret (pc := 98) hX dX25_drawn_98 hr ⟨Nat.le_refl _, Nat.le_refl _⟩ (⟨rfl, rfl, rfl, rfl, rfl⟩)
  | succ n ih =>
    intro d s σ hn hv he
    have h9 : ¬ nI N ≤ nI d := nI_ge (by omega) (by omega)
    have hT := hv.T
    have hmT : m_many σ ≤ nv (σ.1 0 11) := by have := (m_rmc_le σ (nv (σ.1 0 11)) 0 0).2; rw [Nat.zero_add] at this; exact this
    have hm0 : ¬ nI (m_many σ) ≤ 0 → 1 ≤ m_many σ := fun q => by
      rcases Nat.eq_zero_or_pos (m_many σ) with z | z
      · exact absurd (by rw [z]; decide) q
      · exact z
    have hm1 : nI (m_many σ) ≤ 0 → m_many σ = 0 := fun q => by
      rcases Nat.eq_zero_or_pos (m_many σ) with z | z
      · exact z
      · exact absurd q (nI_nle z (by omega))
    unfold m_dr at he
    refine jj_iload_n (pc := 40) hX dX25_drawn_40 rfl ?_
    refine jj_iload_n (pc := 41) hX dX25_drawn_41 rfl ?_
    refine jj_icmp_ge (pc := 42) hX 97 dX25_drawn_42 rfl (fun q => absurd q h9) (fun _ => ?_)
    refine jj_iload (pc := 45) hX dX25_drawn_45 rfl ?_
    refine jj_if_le (pc := 47) hX 97 dX25_drawn_47 rfl (fun h47 => ?_) (fun h47 => ?_)
    · rw [if_pos (hm1 h47)] at he
      obtain ⟨rfl, rfl⟩ := Prod.mk.inj he
      refine jj_iload_n (pc := 97) hX dX25_drawn_97 rfl ?_
      exact jj_iret (pc := 98) hX dX25_drawn_98 hr ⟨Nat.le_refl _, Nat.le_refl _⟩ (⟨rfl, rfl, rfl, rfl, rfl⟩)
    · have z8 := hm0 h47
      rw [if_neg (by omega)] at he
      obtain ⟨j9, j8, j7⟩ := m_ri_ok s (m := m_many σ) z8 (by omega)
      have r9 := m_ready_ok hv j8
      rw [← j7] at r9
      obtain ⟨k1, k2, -⟩ := hk σ (nv (m_ready σ (m_ri (m_rs s) (m_many σ)))) hv r9.2.1 r9.2.2
      have hne : ¬ (nI (m_many σ)).toInt64 = 0 := by rw [nI_l (by omega)]; exact fun q => absurd ((pk_lEQ (b := 0) (by omega) (by decide)).mp q) (Nat.ne_of_gt z8)
      refine jj_lload (pc := 50) hX dX25_drawn_50 rfl ?_
      refine jj_ldc2 (pc := 52) hX (v := 1103515245) q1739 dX25_drawn_52 ?_
      refine jj_lmul (pc := 55) hX dX25_drawn_55 ?_
      refine jj_ldc2 (pc := 56) hX (v := 12345) q1740 dX25_drawn_56 ?_
      refine jj_ladd (pc := 59) hX dX25_drawn_59 ?_
      refine jj_ldc2 (pc := 60) hX (v := 2147483647) q1741 dX25_drawn_60 ?_
      refine jj_land (pc := 63) hX dX25_drawn_63 ?_
      refine jj_lstore (pc := 64) hX dX25_drawn_64 (by decide) ?_
      refine jj_aload_n (pc := 66) hX dX25_drawn_66 rfl ?_
      refine jj_aload_n (pc := 67) hX dX25_drawn_67 rfl ?_
      refine jj_lload (pc := 68) hX dX25_drawn_68 rfl ?_
      refine jj_ldc2 (pc := 70) hX (v := 65536) q1742 dX25_drawn_70 ?_
      refine jj_ldiv (pc := 73) hX dX25_drawn_73 (by decide) ?_
      refine jj_iload (pc := 74) hX dX25_drawn_74 rfl ?_
      refine jj_i2l (pc := 76) hX dX25_drawn_76 ?_
      refine jj_lrem (pc := 77) hX dX25_drawn_77 hne ?_
      refine jj_l2i (pc := 78) hX dX25_drawn_78 ?_
      refine jj_callV (pc := 79) hX (w_ready X.1 σ hv (m_ri (m_rs s) (m_many σ))) dX25_drawn_79 (lw_V q1734 q1722 q1723 q78 q1724) rfl ⟨by decide +kernel, by decide +kernel, by show _ = some (1 : Nat); decide +kernel⟩ ⟨Nat.le_of_ble_eq_true rfl, Nat.le_of_ble_eq_true rfl, Nat.le_of_ble_eq_true rfl, Nat.le_of_ble_eq_true rfl, Nat.le_of_ble_eq_true rfl⟩ (fun q => by cases q) rfl jc_25 rfl (jj_keq ?_) jj_kno
      refine jj_top (nI (nv (m_ready σ (m_ri (m_rs s) (m_many σ))))) r9.1 ?_
      refine jj_callV (pc := 82) hX (ho σ _ hv r9.2.1 r9.2.2) dX25_drawn_82 (lw_V q1672 q1674 qs33 q78 q1675) rfl ⟨by decide +kernel, by decide +kernel, by show _ = some (1 : Nat); decide +kernel⟩ ⟨Nat.le_of_ble_eq_true rfl, Nat.le_of_ble_eq_true rfl, Nat.le_of_ble_eq_true rfl, Nat.le_of_ble_eq_true rfl, Nat.le_of_ble_eq_true rfl⟩ (fun q => by cases q) rfl jc_25 rfl (jj_keq ?_) jj_kno
      refine jj_iinc (pc := 85) hX (v := nI (d + 1)) dX25_drawn_85 rfl (ix_inc rfl) (by decide) ?_
      refine jj_aload_n (pc := 88) hX dX25_drawn_88 rfl ?_
      refine jj_callV (pc := 89) hX (w_readyMany X.1 _ k1) dX25_drawn_89 (lw_V q1730 q1732 qs44 q78 q1733) rfl ⟨by decide +kernel, by decide +kernel, by show _ = some (0 : Nat); decide +kernel⟩ ⟨Nat.le_of_ble_eq_true rfl, Nat.le_of_ble_eq_true rfl, Nat.le_of_ble_eq_true rfl, Nat.le_of_ble_eq_true rfl, Nat.le_of_ble_eq_true rfl⟩ (fun q => by cases q) rfl jc_25 rfl (jj_keq ?_) jj_kno
      refine jj_istore (pc := 92) hX dX25_drawn_92 (by decide) ?_
      refine jj_goto (pc := 94) hX 40 dX25_drawn_94 rfl ?_
      refine jj_ls [(0, jR (some 0)), (1, jI z9), (2, jI (nI N)), (3, jI (nI (d + 1))), (4, jL (m_rs s)), (6, jI (nI (m_many (m_step (nv (m_ready σ (m_ri (m_rs s) (m_many σ)))) σ))))] ⟨rfl, rfl, rfl, rfl, rfl, rfl, trivial⟩ ?_
      exact ih (d + 1) _ _ (by omega) k1 he

theorem w_drawn (G : jj_G) (σ : jm) (hk : m_keep) (ho : m_one G) (hv : m_inv σ) (s n : Int32) : jm_M G yX25_drawn cX25_drawn 7 (some .int) 6 175 [jI s, jI n] σ ((m_drawnR σ s n).2) (some (jI (m_drawnR σ s n).1)) := by
  refine jj_intro "BranchCellsModel" (by decide) rfl (Nat.le_of_ble_eq_true rfl) ?_
  intro X hG hX hr hN hC hF
  subst hG
  refine jj_iload_n (pc := 0) hX dX25_drawn_0 rfl ?_
  refine jj_if_lt (pc := 1) hX 16 dX25_drawn_1 rfl (fun h1 => ?_) (fun h1 => ?_)
  · refine jj_iconst (pc := 16) hX (v := (-1)) dX25_drawn_16 (by decide) ?_
    refine jj_iret (pc := 17) hX dX25_drawn_17 hr ⟨Nat.le_refl _, Nat.le_refl _⟩ ?_
    unfold m_drawnR
    rw [if_pos h1]
    exact ⟨rfl, rfl, rfl, rfl, rfl⟩
  · refine jj_iload_n (pc := 4) hX dX25_drawn_4 rfl ?_
    refine jj_i2l (pc := 5) hX dX25_drawn_5 ?_
    refine jj_lconst (pc := 6) hX (v := 1) dX25_drawn_6 (by decide) ?_
    refine jj_ldc2 (pc := 7) hX (v := 2000) q1729 dX25_drawn_7 ?_
    refine jj_callS (pc := 10) hX (w_in X.1 _ _ _ _ _ _ _) dX25_drawn_10 (lw_S q1588 q1589 q78 q1590) ⟨by decide +kernel, by decide +kernel, by show _ = some (3 : Nat); decide +kernel⟩ ⟨Nat.le_of_ble_eq_true rfl, Nat.le_of_ble_eq_true rfl, Nat.le_of_ble_eq_true rfl, Nat.le_of_ble_eq_true rfl, Nat.le_of_ble_eq_true rfl⟩ (fun q => by cases q) rfl (jj_kif (fun hn9 => ?_) (fun hn9 => ?_)) jj_kno
    · refine jj_if_ne (pc := 13) hX 18 dX25_drawn_13 rfl (fun _ => ?_) (fun q => absurd q (by decide))
      refine jj_aload_n (pc := 18) hX dX25_drawn_18 rfl ?_
      refine jj_getI (pc := 19) hX fl_X25_130_25 dX25_drawn_19 rfl rfl ?_
      refine jj_if_ne (pc := 22) hX 28 dX25_drawn_22 rfl (fun h22 => ?_) (fun h22 => ?_)
      · refine jj_iconst (pc := 28) hX (v := 0) dX25_drawn_28 (by decide) ?_
        refine jj_istore_n (pc := 29) hX dX25_drawn_29 (by decide) ?_
        refine jj_iload_n (pc := 30) hX dX25_drawn_30 rfl ?_
        refine jj_i2l (pc := 31) hX dX25_drawn_31 ?_
        refine jj_lstore (pc := 32) hX dX25_drawn_32 (by decide) ?_
        refine jj_aload_n (pc := 34) hX dX25_drawn_34 rfl ?_
        refine jj_callV (pc := 35) hX (w_readyMany X.1 σ hv) dX25_drawn_35 (lw_V q1730 q1732 qs44 q78 q1733) rfl ⟨by decide +kernel, by decide +kernel, by show _ = some (0 : Nat); decide +kernel⟩ ⟨Nat.le_of_ble_eq_true rfl, Nat.le_of_ble_eq_true rfl, Nat.le_of_ble_eq_true rfl, Nat.le_of_ble_eq_true rfl, Nat.le_of_ble_eq_true rfl⟩ (fun q => by cases q) rfl jc_25 rfl (jj_keq ?_) jj_kno
        refine jj_istore (pc := 38) hX dX25_drawn_38 (by decide) ?_
        obtain ⟨e8, l8, l7⟩ := in_1 2000 rfl hn9
        refine jj_ls [(0, jR (some 0)), (1, jI s), (2, jI (nI (nv n))), (3, jI (nI 0)), (4, jL s.toInt64), (6, jI (nI (m_many σ)))] ⟨rfl, rfl, congrArg (fun z => some (jI z)) e8, rfl, rfl, rfl, trivial⟩ ?_
        have q1 : m_drawnR σ s n = (nI (m_dr (nv n) 0 s.toInt64 σ).1, (m_dr (nv n) 0 s.toInt64 σ).2) := by unfold m_drawnR; rw [if_neg h1, if_pos hn9, if_neg h22]
        rw [q1]
        exact w_drawn_l hX hr hk ho s (nv n) l7 _ _ (nv n) 0 s.toInt64 σ (Nat.zero_add _) hv rfl
      · refine jj_bipush (pc := 25) hX (v := (-2)) dX25_drawn_25 (by decide) ?_
        refine jj_iret (pc := 27) hX dX25_drawn_27 hr ⟨Nat.le_refl _, Nat.le_refl _⟩ ?_
        unfold m_drawnR
        rw [if_neg h1, if_pos hn9, if_pos h22]
        exact ⟨rfl, rfl, rfl, rfl, rfl⟩
    · refine jj_if_ne (pc := 13) hX 18 dX25_drawn_13 rfl (fun q => absurd (by decide) q) (fun _ => ?_)
      refine jj_iconst (pc := 16) hX (v := (-1)) dX25_drawn_16 (by decide) ?_
      refine jj_iret (pc := 17) hX dX25_drawn_17 hr ⟨Nat.le_refl _, Nat.le_refl _⟩ ?_
      unfold m_drawnR
      rw [if_neg h1, if_neg hn9]
      exact ⟨rfl, rfl, rfl, rfl, rfl⟩
