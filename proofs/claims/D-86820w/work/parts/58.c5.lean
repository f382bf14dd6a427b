set_option maxRecDepth 100000
theorem room_wid {s : State} {pl : Platform} {rm rm' : Room} (hf : rm.frames = rm'.frames ∧ rm.locals = rm'.locals) (hc : rm.cells ≤ rm'.cells) (hs : rm.slots ≤ rm'.slots) (h : s.hasRoom pl rm' = true) : s.hasRoom pl rm = true := by
  simp only [State.hasRoom, Bool.and_eq_true, decide_eq_true_eq] at h ⊢
  rw [hf.1, hf.2]
  exact ⟨⟨⟨h.1.1.1, by have := h.1.1.2; omega⟩, by have := h.1.2; omega⟩, h.2⟩
theorem kk_M.wid {G : jj_G} {y : MethodName} {ws : List Cond} {rm rm' : Room} {As : List jj_v} {fr : Bool} {τ : jj_T} {I : jj_I} {L : jj_L} {r : jj_R} {P : jj_P} {PX : jj_PX} (h : kk_M G y ws rm As fr τ I L r P PX) (hf : rm.frames = rm'.frames ∧ rm.locals = rm'.locals) (hc : rm.cells ≤ rm'.cells) (hs : rm.slots ≤ rm'.slots) : kk_M G y ws rm' As fr τ I L r P PX := by
  intro ad hW hAs p e ha hc9 hk s m args below hfr happ hP hK
  have happ' : (headSpec ws rm).appliesLoose y e.platform s = true := by
    unfold Spec.appliesLoose at happ ⊢
    rw [hfr] at happ ⊢
    simp only [Bool.and_eq_true] at happ ⊢
    exact ⟨⟨happ.1.1, room_wid hf hc hs happ.1.2⟩, happ.2⟩
  obtain ⟨n, o, h1, h2, h3, h4⟩ := h ad hW hAs p e ha hc9 hk s m args below hfr happ' hP hK
  refine ⟨n, o, h1, h2, h3, ?_⟩
  rcases h4 with ⟨q1, Lc, ⟨g1, g2, g3⟩, q3⟩ | ⟨q, q1, E, ce, Lc, g1, g2, g3, g4, g5, g6, g7⟩
  · exact Or.inl ⟨q1, Lc, ⟨g1, g2, g3.mono hc hs⟩, q3⟩
  · exact Or.inr ⟨q, q1, E, ce, Lc, g1, g2, g3, g4, g5, g6.mono hc hs, g7⟩
theorem kk_M.fr {G : jj_G} {y : MethodName} {ws : List Cond} {rm : Room} {As : List jj_v} {τ : jj_T} {I : jj_I} {L : jj_L} {r : jj_R} {P : jj_P} {PX : jj_PX} (h : kk_M G y ws rm As false τ I L r P PX) : kk_M G y ws rm As true τ I L r P PX := by
  intro ad hW hAs
  refine kk_impM (h ad hW hAs) (fun a U hP => ⟨hP.1, hP.2.1, fun z => (by cases z), hP.2.2.2⟩) (fun a U oc t hP hQ => hQ)
theorem sh_1 : ∀ N, N < 256 → nI N >>> ((1 : Int32) &&& 31) = nI (N / 2) := by decide +kernel
theorem grow_d {n N : Nat} (hn : n = N) (hN : N < 256) (h0 : 0 < N) : (if nI (n + 1) - nI N < nI N >>> ((1 : Int32) &&& 31) then nI N >>> ((1 : Int32) &&& 31) else nI (n + 1) - nI N) = nI (if 1 < N / 2 then N / 2 else 1) := by
  have e : nI (n + 1) - nI N = nI 1 := by rw [hn, pk_sub (by omega)]; congr 1; omega
  rw [e, sh_1 N hN]
  by_cases h : 1 < N / 2
  · rw [if_pos h, if_pos (nI_lt h (by omega))]
  · rw [if_neg h, if_neg (nI_nlt (by omega) (by decide))]
theorem v_ladd (G : jj_G) (τ : jj_T) (I : jj_I) (L : jj_L) (r : jj_R) {th e N n : Nat} {f : Nat → Nat} (h : cr_lst th e N n f τ I r) (x : Nat) {cx : Nat} {Tx : u_T} {Nx : Nat} {C : String} (hx : τ x = some (.inl cx)) (hcx : jj_cl[cx]? = some (C, Tx, Nx)) (hCs : Cond.castable C "java/lang/Object" ∈ jj_tw) (hel : ∀ i, i < n → τ (f i) = some (.inl cx)) (h00 : τ 0 = some (.inr (3, 0))) (hn9 : n < 100) (q : Nat) (hq : τ q = none ∧ ¬ (1 ≤ q ∧ q ≤ 6)) : kk_M G yJ2_add (ws_ yJ2_add cJ2_add 2 (some .boolean)) { frames := 6, cells := 1, slots := 256, locals := 143 } [jR (some th), jR (some x)] true τ I L r (fun v' τ' I' L' r' => v' = some (jI 1) ∧ ∃ e' N', cr_lst th e' N' (n + 1) (fun i => if i = n then x else f i) τ' I' r' ∧ (e' = e ∨ e' = q) ∧ τ' th = τ th ∧ (∀ b, b ≠ q → τ' b = τ b) ∧ (∀ b, b ≠ q → b ≠ th → I' b = I b) ∧ (∀ b, b ≠ q → L' b = L b) ∧ ∀ b, b ≠ q → b ≠ th → (b = e → b = 0) → r' b = r b) jj_no := by
  have hthe : th ≠ e := fun z => by have := h.k0; rw [z, h.ke] at this; cases this
  have hthq : th ≠ q := kk_nf h.k0 hq.1
  have heq : e ≠ q := kk_nf h.ke hq.1
  have hxq : x ≠ q := kk_nf hx hq.1
  rcases Nat.lt_or_ge n N with g | g
  · have he0 : ¬ e = 0 := fun z => by have := h.ke; rw [z, h00] at this; cases this; omega
    refine ((v_add G τ I L r th e N n x hx hcx hCs h.k0 h.ke g (by have := h.lt; omega) h.l1 h.sz _ rfl).fr.wid (rm' := { frames := 6, cells := 1, slots := 256, locals := 143 }) ⟨rfl, rfl⟩ (by decide) (by decide)).imp ?_ (fun _ _ _ _ _ z => z)
    rintro _ _ _ _ _ ⟨rfl, rfl, rfl, rfl, rfl⟩
    refine ⟨rfl, e, N, ⟨h.k0, (congrFun (jj_ua hthe) 1).trans h.l1, jj_us.trans (nI_add n 1), h.ke, g, h.lt, h.z0, fun i hi => ?_, fun i hi => ?_⟩, Or.inl rfl, rfl, fun b hb => rfl, fun b _ hb => (jj_ua hb).trans (jj_ua hb), fun b hb => rfl, fun b _ _ hb => jj_ua (fun z => he0 ((hb z) ▸ z.symm))⟩
    · by_cases z : i = n
      · subst z; exact jj_us.trans (congrArg some (if_pos rfl).symm)
      · exact ((jj_un (Or.inr z)).trans (h.el i (by omega))).trans (congrArg some (if_neg z).symm)
    · exact (jj_un (Or.inr (by omega))).trans (h.no i (by omega))
  · have hnN : n = N := by have := h.le; omega
    have hfree : ∀ b, b ≠ q → jj_t τ q (.inr (3, N + (if 1 < N / 2 then N / 2 else 1))) b = τ b := fun b hb => jj_tn hb
    rcases Nat.eq_zero_or_pos N with z0 | z0
    · have he0 := h.z0 z0
      subst he0
      have hn0 : n = 0 := by omega
      subst hn0
      refine ((v_adde G τ I L r th q h00 hq h.k0 h.l1 x hx hcx hCs h.sz _ rfl).wid (rm' := { frames := 6, cells := 1, slots := 256, locals := 143 }) ⟨rfl, rfl⟩ (by decide) (by decide)).imp ?_ (fun _ _ _ _ _ z => z)
      rintro _ _ _ _ _ ⟨rfl, rfl, rfl, rfl, rfl⟩
      refine ⟨rfl, q, 10, ⟨(jj_tn hthq).trans h.k0, (jj_un (Or.inl hthq)).trans jj_us, jj_us.trans (nI_add 0 1), jj_ts, by decide, by decide, fun z => (by cases z), fun i hi => ?_, fun i hi => ?_⟩, Or.inr rfl, jj_tn hthq, fun b hb => jj_tn hb, fun b hb hb2 => (jj_ua hb2).trans ((jj_zn hb).trans (jj_ua hb2)), fun b hb => jj_zn hb, fun b hb hb2 _ => (jj_ua hb).trans ((jj_ua hb2).trans (jj_zn hb))⟩
      · have : i = 0 := by omega
        subst this
        exact jj_us.trans (congrArg some (if_pos rfl).symm)
      · exact (jj_un (Or.inr (by omega))).trans ((jj_un (Or.inl hthq.symm)).trans jj_zs)
    · have hk : kk_el τ r e C := fun i y hy => by
        rcases Nat.lt_or_ge i n with g2 | g2
        · rw [h.el i g2] at hy; cases hy
          exact ⟨cx, Tx, Nx, hel i g2, hcx⟩
        · rw [h.no i g2] at hy; cases hy
      have hlt := h.lt
      have hd1 : 1 ≤ (if 1 < N / 2 then N / 2 else 1) := by split <;> omega
      have hd2 : (if 1 < N / 2 then N / 2 else 1) ≤ N / 2 + 1 := by split <;> omega
      have hgd := grow_d hnN hlt z0
      generalize (if 1 < N / 2 then N / 2 else 1) = d at hd1 hd2 hgd hfree
      refine ((v_addg G τ I L r th e q N (N + d) x hx hcx hCs h.ke hq n d hgd rfl hd1 (by omega) hnN z0 (by omega) hk h.k0 h.l1 h.sz _ rfl).wid (rm' := { frames := 6, cells := 1, slots := 256, locals := 143 }) ⟨rfl, rfl⟩ (Nat.le_refl 1) (by show N + d ≤ 256; omega)).imp ?_ (fun _ _ _ _ _ z => z)
      rintro _ _ _ _ _ ⟨rfl, rfl, rfl, rfl, rfl⟩
      refine ⟨rfl, q, N + d, ⟨(jj_tn hthq).trans h.k0, (jj_un (Or.inl hthq)).trans jj_us, jj_us.trans (nI_add n 1), jj_ts, by omega, by omega, fun z => (by omega), fun i hi => ?_, fun i hi => ?_⟩, Or.inr rfl, jj_tn hthq, fun b hb => jj_tn hb, fun b hb hb2 => (jj_ua hb2).trans ((jj_zn hb).trans (jj_ua hb2)), fun b hb => jj_zn hb, fun b hb hb2 _ => (jj_ua hb).trans ((jj_ua hb2).trans ((jj_cpo hb).trans (jj_zn hb)))⟩
      · by_cases z : i = n
        · subst z; exact jj_us.trans (congrArg some (if_pos rfl).symm)
        · refine Eq.trans ?_ (congrArg some (if_neg z).symm)
          refine (jj_un (Or.inr z)).trans ((jj_un (Or.inl hthq.symm)).trans ?_)
          unfold jj_cp va_cpy
          rw [if_pos rfl, if_pos (by omega), jj_zn heq, Nat.sub_zero, Nat.zero_add]
          exact h.el i (by omega)
      · refine (jj_un (Or.inr (by omega))).trans ((jj_un (Or.inl hthq.symm)).trans ?_)
        unfold jj_cp va_cpy
        rw [if_pos rfl, if_neg (by omega)]
        exact jj_zs
theorem m_cl_1 (S : Nat) : ∀ (n c : Nat) (σ : jm) (k j : Nat), (m_cl S n c σ).1 k j = if k = 39 ∧ 16 * S + c ≤ j ∧ j < 16 * S + c + n then 0 else σ.1 k j := by
  intro n
  induction n with
  | zero => intro c σ k j; rw [if_neg (by omega)]; rfl
  | succ n ih =>
    intro c σ k j
    unfold m_cl
    rw [ih]
    by_cases h : k = 39 ∧ j = 16 * S + c
    · rw [h.1, h.2, if_neg (by omega), if_pos (by omega), mu_s]
    · by_cases h2 : k = 39 ∧ 16 * S + (c + 1) ≤ j ∧ j < 16 * S + (c + 1) + n
      · rw [if_pos h2, if_pos (by omega)]
      · rw [if_neg h2, if_neg (by omega), mu_n (by omega)]
theorem m_cl_2 (S : Nat) : ∀ (n c : Nat) (σ : jm), (m_cl S n c σ).2 = σ.2
  | 0, _, _ => rfl
  | n + 1, c, σ => (m_cl_2 S n (c + 1) _).trans rfl
theorem m_ns_o {b : Int32} {σ : jm} {k j : Nat} (h : ¬ (k = 38 ∧ j = nv (σ.1 0 36) ∨ k = 39 ∧ j / 16 = nv (σ.1 0 36) ∨ k = 0 ∧ j = 36)) : (m_ns b σ).1 k j = σ.1 k j := by
  unfold m_ns
  rw [mu_n (by omega), m_cl_1, if_neg (by omega), mu_n (by omega)]
theorem m_ns_36 {b : Int32} {σ : jm} : (m_ns b σ).1 0 36 = σ.1 0 36 + 1 := by
  unfold m_ns
  rw [mu_s]
theorem m_ns_38 {b : Int32} {σ : jm} : (m_ns b σ).1 38 (nv (σ.1 0 36)) = b := by
  unfold m_ns
  rw [mu_n (by omega), m_cl_1, if_neg (by omega), mu_s]
theorem m_ns_39 {b : Int32} {σ : jm} {c : Nat} (h : c < 16) : (m_ns b σ).1 39 (16 * nv (σ.1 0 36) + c) = 0 := by
  unfold m_ns
  rw [mu_n (by omega), m_cl_1, if_pos (by omega)]
theorem m_ns_2 {b : Int32} {σ : jm} : (m_ns b σ).2 = σ.2 := by
  unfold m_ns
  rw [m_u_2, m_cl_2, m_u_2]
theorem cr_sb_0 {σ : jm} {s : Nat} : ∀ n, (∀ c, c < n → σ.1 39 (16 * s + c) = 0) → cr_sb σ s n = 0 := by
  intro n
  induction n with
  | zero => intro _; rfl
  | succ n ih =>
    intro h
    unfold cr_sb
    rw [ih (fun c hc => h c (by omega)), h n (by omega), if_pos rfl]
def cr_up (e : Nat → Nat) (i v : Nat) : Nat → Nat := fun j => if j = i then v else e j
theorem cr_up_s {e : Nat → Nat} {i v : Nat} : cr_up e i v i = v := if_pos rfl
theorem cr_up_n {e : Nat → Nat} {i v j : Nat} (h : j ≠ i) : cr_up e i v j = e j := if_neg h
theorem cr_e.up {β : Nat} {e : Nat → Nat} (h : cr_e β e) {i v : Nat} (hi : 13 ≤ i ∧ i ≤ 16) (hv : v = e i ∨ (β + 10000 ≤ v ∧ ∀ j, 13 ≤ j → j ≤ 16 → e j ≠ v)) : cr_e β (cr_up e i v) := by
  have hb := h.be
  rcases hv with hv | ⟨hv, hne⟩
  · have : cr_up e i v = e := by
      funext j
      unfold cr_up
      split
      · next z => rw [hv, z]
      · rfl
    rw [this]; exact h
  · refine ⟨h.be, fun j h1 h2 => ?_, fun j h1 h2 => ?_, fun a b h1 h2 h3 h4 hab he => ?_⟩
    · by_cases z : j = i
      · rw [z, cr_up_s]; omega
      · rw [cr_up_n z]; exact h.lo j h1 h2
    · by_cases z : j = i
      · rw [z, cr_up_s]; omega
      · rw [cr_up_n z]; exact h.ou j h1 h2
    · by_cases z : a = i
      · have zb : b ≠ i := by omega
        rw [z, cr_up_s, cr_up_n zb] at he
        exact absurd he.symm (hne b h3 h4)
      · rw [cr_up_n z] at he
        by_cases zb : b = i
        · rw [zb, cr_up_s] at he
          exact absurd he (hne a h1 h2)
        · rw [cr_up_n zb] at he
          rw [cr_up_n z]; exact h.di a b h1 h2 h3 h4 hab he
