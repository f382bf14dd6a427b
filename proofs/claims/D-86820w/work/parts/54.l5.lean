set_option maxRecDepth 100000
theorem kk_M.imp {G : jj_G} {y : MethodName} {ws : List Cond} {rm : Room} {As : List jj_v} {fr : Bool} {τ : jj_T} {I : jj_I} {L : jj_L} {r : jj_R} {P P' : jj_P} {PX PX' : jj_PX} (h : kk_M G y ws rm As fr τ I L r P PX) (h1 : ∀ v τ' I' L' r', P v τ' I' L' r' → P' v τ' I' L' r') (h2 : ∀ a τ' I' L' r', PX a τ' I' L' r' → PX' a τ' I' L' r') : kk_M G y ws rm As fr τ I L r P' PX' := by
  intro ad hW hAs
  refine kk_impM (h ad hW hAs) (fun a U hP => hP) (fun a U oc t hP hQ => ?_)
  rcases hQ with ⟨⟨ad', g1, v, τ', I', L', r', g2, ⟨g3, g4⟩, g5⟩, g6⟩ | ⟨q, g1, E, ce, Lc, ⟨ad', g2, g3, a', τ', I', L', r', g4, g5, ⟨g6, g7⟩, g8⟩, g9⟩
  · exact Or.inl ⟨⟨ad', g1, v, τ', I', L', r', g2, ⟨h1 _ _ _ _ _ g3, g4⟩, g5⟩, g6⟩
  · exact Or.inr ⟨q, g1, E, ce, Lc, ⟨ad', g2, g3, a', τ', I', L', r', g4, g5, ⟨h2 _ _ _ _ _ g6, g7⟩, g8⟩, g9⟩
theorem sz_d {x : Int32} {k : Nat} (h : x = nI (nv x)) (h1 : k ≤ nv x) : nI (nv x - k) = x - nI k := by
  have q := pk_sub (a := nv x) (b := k) h1
  rw [← h] at q
  exact q.symm
theorem sz_u {x : Int32} (h : x = nI (nv x)) : nI (nv x + 1) = x + 1 := by
  have q := nI_add (nv x) 1
  rw [← h] at q
  exact q.symm
theorem sz_dn {x : Int32} {k : Nat} (h : x = nI (nv x)) (h1 : k ≤ nv x) (h2 : nv x < 2147483648) : nv (x - nI k) = nv x - k := by rw [← sz_d h h1, nv_nI (by omega)]
theorem sz_un {x : Int32} (h : x = nI (nv x)) (h2 : nv x < 2147483647) : nv (x + 1) = nv x + 1 := by rw [← sz_u h, nv_nI (by omega)]
theorem v_ctake (G : jj_G) (τ : jj_T) (I : jj_I) (L : jj_L) (r : jj_R) {β : Nat} {ss : List Nat} {e N : Nat → Nat} {ρ : jm} {pl : Nat → Int32} {σ : jm} (h : cr_rel β ss e N ρ pl σ τ I L r) {t : Nat} (ht : t < nv (σ.1 0 11)) (hq : σ.1 32 t = nI (nv (σ.1 32 t))) (h1 : 1 ≤ nv (σ.1 32 t)) : kk_M G yX31_take (ws_ yX31_take cX31_take 1 (some .int)) { frames := 0, cells := 0, slots := 0, locals := 0 } [jR (some (β + 5000 + 20 * t + 7))] false τ I L r (fun v' τ' I' L' r' => v' = some (jI (nI (nv (σ.1 32 t) - 1))) ∧ τ' = τ ∧ L' = L ∧ r' = r ∧ cr_rel β ss e N ρ pl (m_s2 t 1 σ) τ I' L r) jj_no := by
  have hk := h.tk t ht
  refine (v_take G τ I L r (β + 5000 + 20 * t + 7) (nv (σ.1 32 t)) hk.k.k7 (hk.v.ps.trans hq) h1 (σ.1 32 t - 1) (sz_d hq h1)).imp ?_ ?_
  · rintro _ _ _ _ _ ⟨rfl, rfl, rfl, rfl, rfl⟩
    exact ⟨rfl, rfl, rfl, rfl, (at_take h ht (σ.1 32 t - 1) (by rw [show σ.1 32 t - 1 = σ.1 32 t - nI 1 from rfl, sz_dn hq h1 (by have := (h.po t ht).1; omega)]; omega))⟩
  · exact fun _ _ _ _ _ z => z

theorem v_cnum (G : jj_G) (τ : jj_T) (I : jj_I) (L : jj_L) (r : jj_R) {β : Nat} {ss : List Nat} {e N : Nat → Nat} {ρ : jm} {pl : Nat → Int32} {σ : jm} (h : cr_rel β ss e N ρ pl σ τ I L r) {t : Nat} (ht : t < nv (σ.1 0 11)) (hq : σ.1 32 t = nI (nv (σ.1 32 t))) (h1 : 1 ≤ nv (σ.1 32 t)) (hf : σ.1 31 (12 * t + (nv (σ.1 32 t) - 1)) = 0) : kk_M G yX29_number (ws_ yX29_number cX29_number 1 (some .long)) { frames := 5, cells := 0, slots := 0, locals := 110 } [jR (some (β + 5000 + 20 * t))] false τ I L r (fun v' τ' I' L' r' => v' = some (jL (σ.2 30 (12 * t + (nv (σ.1 32 t) - 1)))) ∧ τ' = τ ∧ L' = L ∧ r' = r ∧ cr_rel β ss e N ρ pl (m_s2 t 1 σ) τ I' L r) jj_no := by
  have hk := h.tk t ht
  refine (v_Tnum G τ I L r (β + 5000 + 20 * t) (β + 5000 + 20 * t + 7) (β + 5000 + 20 * t + 8) (β + 5000 + 20 * t + 9) (nv (σ.1 32 t)) hk.k.k0 hk.l.pi hk.k.k7 hk.l.p0 hk.l.p1 hk.k.k8 hk.k.k9 (hk.v.ps.trans hq) h1 (h.po t ht).1 ((hk.c.ph _ (by omega)).trans (if_pos hf)) (σ.1 32 t - 1) (sz_d hq h1)).imp ?_ ?_
  · rintro _ _ _ _ _ ⟨rfl, rfl, rfl, rfl, rfl⟩
    exact ⟨congrArg (fun z => some (jL z)) ((hk.c.pn _ (by omega)).trans (if_pos hf)), rfl, rfl, rfl, (at_take h ht (σ.1 32 t - 1) (by rw [show σ.1 32 t - 1 = σ.1 32 t - nI 1 from rfl, sz_dn hq h1 (by have := (h.po t ht).1; omega)]; omega))⟩
  · exact fun _ _ _ _ _ z => z

theorem v_cnumX (G : jj_G) (τ : jj_T) (I : jj_I) (L : jj_L) (r : jj_R) {β : Nat} {ss : List Nat} {e N : Nat → Nat} {ρ : jm} {pl : Nat → Int32} {σ : jm} (h : cr_rel β ss e N ρ pl σ τ I L r) {t : Nat} (ht : t < nv (σ.1 0 11)) (hq : σ.1 32 t = nI (nv (σ.1 32 t))) (h1 : 1 ≤ nv (σ.1 32 t)) (hf : ¬ σ.1 31 (12 * t + (nv (σ.1 32 t) - 1)) = 0) (q : Nat) (hq7 : τ q = none ∧ ¬ (1 ≤ q ∧ q ≤ 6)) (hq9 : β + 10000 ≤ q) : kk_M G yX29_number (ws_ yX29_number cX29_number 1 (some .long)) { frames := 5, cells := 1, slots := 7, locals := 110 } [jR (some (β + 5000 + 20 * t))] true τ I L r jj_noP (fun a τ' I' L' r' => a = q ∧ I' q 6 = 2 ∧ cr_rel β ss e N ρ pl (m_s2 t 1 σ) τ' I' L' r') := by
  have hk := h.tk t ht
  refine (v_TnumX G τ I L r (β + 5000 + 20 * t) (β + 5000 + 20 * t + 7) (β + 5000 + 20 * t + 8) (β + 5000 + 20 * t + 9) (nv (σ.1 32 t)) hk.k.k0 hk.l.pi hk.k.k7 hk.l.p0 hk.l.p1 hk.k.k8 hk.k.k9 (hk.v.ps.trans hq) _ h1 (h.po t ht).1 ((hk.c.ph _ (by omega)).trans (if_neg hf)) (σ.1 32 t - 1) (sz_d hq h1) q hq7).imp ?_ ?_
  · exact jj_knp
  · rintro _ _ _ _ _ ⟨rfl, rfl, rfl, rfl, rfl⟩
    exact ⟨rfl, jj_us, (cr_rel.gar (at_take h ht (σ.1 32 t - 1) (by rw [show σ.1 32 t - 1 = σ.1 32 t - nI 1 from rfl, sz_dn hq h1 (by have := (h.po t ht).1; omega)]; omega)) hq7.1 hq9 (fun b hb => jj_tn hb) (fun b hb => (jj_ua hb).trans (jj_zn hb)) (fun b hb => jj_zn hb) (fun b hb => (jj_ua hb).trans ((jj_ua hb).trans ((jj_ua hb).trans ((jj_ua hb).trans ((jj_ua hb).trans ((jj_ua hb).trans ((jj_ua hb).trans (jj_zn hb)))))))))⟩

theorem v_cpnum (G : jj_G) (τ : jj_T) (I : jj_I) (L : jj_L) (r : jj_R) {β : Nat} {ss : List Nat} {e N : Nat → Nat} {ρ : jm} {pl : Nat → Int32} {σ : jm} (h : cr_rel β ss e N ρ pl σ τ I L r) {t : Nat} (ht : t < nv (σ.1 0 11)) (k : Nat) (hk9 : k < 12) (h0 : r (β + 5000 + 20 * t + 9) k = none) : kk_M G yX30_number (ws_ yX30_number cX30_number 2 (some .long)) { frames := 4, cells := 0, slots := 0, locals := 89 } [jR (some (β + 5000 + 20 * t + 7)), jI (nI k)] false τ I L r (fun v' τ' I' L' r' => v' = some (jL (L (β + 5000 + 20 * t + 8) k)) ∧ τ' = τ ∧ I' = I ∧ L' = L ∧ r' = r ∧ True) jj_no := by
  have hk := h.tk t ht
  refine (v_Vnum31 G τ I L r (β + 5000 + 20 * t + 7) (β + 5000 + 20 * t + 8) (β + 5000 + 20 * t + 9) 12 hk.k.k7 hk.l.p0 hk.l.p1 hk.k.k8 hk.k.k9 (by decide) k hk9 h0).imp ?_ ?_
  · rintro _ _ _ _ _ ⟨rfl, rfl, rfl, rfl, rfl⟩
    exact ⟨rfl, rfl, rfl, rfl, rfl, trivial⟩
  · exact fun _ _ _ _ _ z => z

theorem v_cpnumX (G : jj_G) (τ : jj_T) (I : jj_I) (L : jj_L) (r : jj_R) {β : Nat} {ss : List Nat} {e N : Nat → Nat} {ρ : jm} {pl : Nat → Int32} {σ : jm} (h : cr_rel β ss e N ρ pl σ τ I L r) {t : Nat} (ht : t < nv (σ.1 0 11)) (k w : Nat) (hk9 : k < 12) (h0 : r (β + 5000 + 20 * t + 9) k = some w) (q : Nat) (hq7 : τ q = none ∧ ¬ (1 ≤ q ∧ q ≤ 6)) (hq9 : β + 10000 ≤ q) : kk_M G yX30_number (ws_ yX30_number cX30_number 2 (some .long)) { frames := 4, cells := 1, slots := 7, locals := 89 } [jR (some (β + 5000 + 20 * t + 7)), jI (nI k)] true τ I L r jj_noP (fun a τ' I' L' r' => a = q ∧ I' q 6 = 2 ∧ cr_rel β ss e N ρ pl σ τ' I' L' r') := by
  have hk := h.tk t ht
  refine (v_VnumX31 G τ I L r (β + 5000 + 20 * t + 7) (β + 5000 + 20 * t + 8) (β + 5000 + 20 * t + 9) 12 hk.k.k7 hk.l.p0 hk.l.p1 hk.k.k8 hk.k.k9 (by decide) k w hk9 h0 q hq7).imp ?_ ?_
  · exact jj_knp
  · rintro _ _ _ _ _ ⟨rfl, rfl, rfl, rfl, rfl⟩
    exact ⟨rfl, jj_us, (cr_rel.gar h hq7.1 hq9 (fun b hb => jj_tn hb) (fun b hb => (jj_ua hb).trans (jj_zn hb)) (fun b hb => jj_zn hb) (fun b hb => (jj_ua hb).trans ((jj_ua hb).trans ((jj_ua hb).trans ((jj_ua hb).trans ((jj_ua hb).trans ((jj_ua hb).trans ((jj_ua hb).trans (jj_zn hb)))))))))⟩

theorem v_cput (G : jj_G) (τ : jj_T) (I : jj_I) (L : jj_L) (r : jj_R) {β : Nat} {ss : List Nat} {e N : Nat → Nat} {ρ : jm} {pl : Nat → Int32} {σ : jm} (h : cr_rel β ss e N ρ pl σ τ I L r) {t : Nat} (ht : t < nv (σ.1 0 11)) (hq : σ.1 32 t = nI (nv (σ.1 32 t))) (v : Int64) (g : Int32) (y : Int64) (x : Option Nat) (hy : y = cr_nu g v) (hx : x = cr_hr β g v) (hp : nv (σ.1 32 t) < 12) (hx9 : ∀ w, x = some w → τ w = some (.inl 29)) : kk_M G yX31_put (ws_ yX31_put cX31_put 4 none) { frames := 4, cells := 0, slots := 0, locals := 89 } [jR (some (β + 5000 + 20 * t + 7)), jL y, jR x] false τ I L r (fun v' τ' I' L' r' => v' = none ∧ τ' = τ ∧ cr_rel β ss e N ρ pl (m_push t v g σ) τ I' L' r') jj_no := by
  have hk := h.tk t ht
  refine (v_Pput G τ I L r (β + 5000 + 20 * t + 7) (β + 5000 + 20 * t + 8) (β + 5000 + 20 * t + 9) (nv (σ.1 32 t)) hk.k.k7 hk.l.p0 hk.l.p1 hk.k.k8 hk.k.k9 (hk.v.ps.trans hq) y x hp hx9 (σ.1 32 t + 1) (sz_u hq)).imp ?_ ?_
  · rintro _ _ _ _ _ ⟨rfl, rfl, rfl, rfl, rfl⟩
    exact ⟨rfl, rfl, (at_push h ht v g (σ.1 32 t + 1) y x hy hx hp (sz_un hq (by omega)))⟩
  · exact fun _ _ _ _ _ z => z

theorem v_cputX (G : jj_G) (τ : jj_T) (I : jj_I) (L : jj_L) (r : jj_R) {β : Nat} {ss : List Nat} {e N : Nat → Nat} {ρ : jm} {pl : Nat → Int32} {σ : jm} (h : cr_rel β ss e N ρ pl σ τ I L r) {t : Nat} (ht : t < nv (σ.1 0 11)) (hq : σ.1 32 t = 12) (y : Int64) (x : Option Nat) (q : Nat) (hq7 : τ q = none ∧ ¬ (1 ≤ q ∧ q ≤ 6)) (hq9 : β + 10000 ≤ q) : kk_M G yX31_put (ws_ yX31_put cX31_put 4 none) { frames := 4, cells := 1, slots := 7, locals := 89 } [jR (some (β + 5000 + 20 * t + 7)), jL y, jR x] true τ I L r jj_noP (fun a τ' I' L' r' => a = q ∧ I' q 6 = 7 ∧ cr_rel β ss e N ρ pl σ τ' I' L' r') := by
  have hk := h.tk t ht
  refine (v_PputX G τ I L r (β + 5000 + 20 * t + 7) (β + 5000 + 20 * t + 8) (β + 5000 + 20 * t + 9) 12 hk.k.k7 hk.l.p0 hk.l.p1 hk.k.k8 hk.k.k9 (hk.v.ps.trans hq) y x rfl q hq7).imp ?_ ?_
  · exact jj_knp
  · rintro _ _ _ _ _ ⟨rfl, rfl, rfl, rfl, rfl⟩
    exact ⟨rfl, jj_us, (cr_rel.gar h hq7.1 hq9 (fun b hb => jj_tn hb) (fun b hb => (jj_ua hb).trans (jj_zn hb)) (fun b hb => jj_zn hb) (fun b hb => (jj_ua hb).trans ((jj_ua hb).trans ((jj_ua hb).trans ((jj_ua hb).trans ((jj_ua hb).trans ((jj_ua hb).trans ((jj_ua hb).trans (jj_zn hb)))))))))⟩

theorem v_cTput (G : jj_G) (τ : jj_T) (I : jj_I) (L : jj_L) (r : jj_R) {β : Nat} {ss : List Nat} {e N : Nat → Nat} {ρ : jm} {pl : Nat → Int32} {σ : jm} (h : cr_rel β ss e N ρ pl σ τ I L r) {t : Nat} (ht : t < nv (σ.1 0 11)) (hq : σ.1 32 t = nI (nv (σ.1 32 t))) (v : Int64) (hp : nv (σ.1 32 t) < 12) : kk_M G yX29_put (ws_ yX29_put cX29_put 3 none) { frames := 5, cells := 0, slots := 0, locals := 112 } [jR (some (β + 5000 + 20 * t)), jL v] false τ I L r (fun v' τ' I' L' r' => v' = none ∧ τ' = τ ∧ cr_rel β ss e N ρ pl (m_push t v 0 σ) τ I' L' r') jj_no := by
  have hk := h.tk t ht
  refine (v_Tput G τ I L r (β + 5000 + 20 * t) (β + 5000 + 20 * t + 7) (β + 5000 + 20 * t + 8) (β + 5000 + 20 * t + 9) (nv (σ.1 32 t)) hk.k.k0 hk.l.pi hk.k.k7 hk.l.p0 hk.l.p1 hk.k.k8 hk.k.k9 (hk.v.ps.trans hq) v hp (σ.1 32 t + 1) (sz_u hq)).imp ?_ ?_
  · rintro _ _ _ _ _ ⟨rfl, rfl, rfl, rfl, rfl⟩
    exact ⟨rfl, rfl, at_push h ht v 0 (σ.1 32 t + 1) v none rfl rfl hp (sz_un hq (by omega))⟩
  · exact fun _ _ _ _ _ z => z

theorem v_cTputX (G : jj_G) (τ : jj_T) (I : jj_I) (L : jj_L) (r : jj_R) {β : Nat} {ss : List Nat} {e N : Nat → Nat} {ρ : jm} {pl : Nat → Int32} {σ : jm} (h : cr_rel β ss e N ρ pl σ τ I L r) {t : Nat} (ht : t < nv (σ.1 0 11)) (hq : σ.1 32 t = 12) (v : Int64) (q : Nat) (hq7 : τ q = none ∧ ¬ (1 ≤ q ∧ q ≤ 6)) (hq9 : β + 10000 ≤ q) : kk_M G yX29_put (ws_ yX29_put cX29_put 3 none) { frames := 5, cells := 1, slots := 7, locals := 112 } [jR (some (β + 5000 + 20 * t)), jL v] true τ I L r jj_noP (fun a τ' I' L' r' => a = q ∧ I' q 6 = 7 ∧ cr_rel β ss e N ρ pl σ τ' I' L' r') := by
  have hk := h.tk t ht
  refine (v_TputX G τ I L r (β + 5000 + 20 * t) (β + 5000 + 20 * t + 7) (β + 5000 + 20 * t + 8) (β + 5000 + 20 * t + 9) 12 hk.k.k0 hk.l.pi hk.k.k7 hk.l.p0 hk.l.p1 hk.k.k8 hk.k.k9 (hk.v.ps.trans hq) v rfl q hq7).imp ?_ ?_
  · exact jj_knp
  · rintro _ _ _ _ _ ⟨rfl, rfl, rfl, rfl, rfl⟩
    exact ⟨rfl, jj_us, (cr_rel.gar h hq7.1 hq9 (fun b hb => jj_tn hb) (fun b hb => (jj_ua hb).trans (jj_zn hb)) (fun b hb => jj_zn hb) (fun b hb => (jj_ua hb).trans ((jj_ua hb).trans ((jj_ua hb).trans ((jj_ua hb).trans ((jj_ua hb).trans ((jj_ua hb).trans ((jj_ua hb).trans (jj_zn hb)))))))))⟩

theorem v_ctell (G : jj_G) (τ : jj_T) (I : jj_I) (L : jj_L) (r : jj_R) {β : Nat} {ss : List Nat} {e N : Nat → Nat} {ρ : jm} {pl : Nat → Int32} {σ : jm} (h : cr_rel β ss e N ρ pl σ τ I L r) {t : Nat} (ht : t < nv (σ.1 0 11)) (hq : σ.1 34 t = nI (nv (σ.1 34 t))) (v : Int64) : kk_M G yX29_tells (ws_ yX29_tells cX29_tells 3 none) { frames := 0, cells := 0, slots := 0, locals := 0 } [jR (some (β + 5000 + 20 * t)), jL v] false τ I L r (fun v' τ' I' L' r' => v' = none ∧ τ' = τ ∧ r' = r ∧ cr_rel β ss e N ρ pl (m_tell t v σ) τ I' L' r) jj_no := by
  have hk := h.tk t ht
  have h60 := (h.po t ht).2
  by_cases hc : 60 ≤ σ.1 34 t
  · have hc2 : 60 ≤ nv (σ.1 34 t) := (nv_le ⟨hq, h60⟩ (by decide) (by decide)).mp hc
    refine (v_Ttell9 G τ I L r (β + 5000 + 20 * t) (nv (σ.1 34 t)) hk.k.k0 (hk.v.os.trans hq) v hc2 (by omega)).imp ?_ (fun _ _ _ _ _ z => z)
    rintro _ _ _ _ _ ⟨rfl, rfl, rfl, rfl, rfl⟩
    refine ⟨rfl, rfl, rfl, ?_⟩
    unfold m_tell
    rw [if_pos hc]
    exact h
  · have hc2 : nv (σ.1 34 t) < 60 := Nat.not_le.mp fun z => hc ((nv_le (m := 60) ⟨hq, h60⟩ (by decide) (by decide)).mpr z)
    refine (v_Ttell G τ I L r (β + 5000 + 20 * t) (β + 5000 + 20 * t + 10) (nv (σ.1 34 t)) hk.k.k0 hk.l.ou hk.k.k10 (hk.v.os.trans hq) v hc2 (σ.1 34 t + 1) (sz_u hq)).imp ?_ (fun _ _ _ _ _ z => z)
    rintro _ _ _ _ _ ⟨rfl, rfl, rfl, rfl, rfl⟩
    refine ⟨rfl, rfl, rfl, ?_⟩
    unfold m_tell
    rw [if_neg hc]
    exact at_out h ht v _ hc2 (sz_un hq (by omega))

theorem v_cends (G : jj_G) (τ : jj_T) (I : jj_I) (L : jj_L) (r : jj_R) {β : Nat} {ss : List Nat} {e N : Nat → Nat} {ρ : jm} {pl : Nat → Int32} {σ : jm} (h : cr_rel β ss e N ρ pl σ τ I L r) {t : Nat} (ht : t < nv (σ.1 0 11)) (v : Int64) (g : Int32) (y : Int64) (x : Option Nat) (hy : y = cr_nu g v) (hx : x = cr_hr β g v) (h0 : σ.1 15 t = 0) (hx9 : ∀ w, x = some w → τ w = some (.inl 29)) : kk_M G yX29_ends (ws_ yX29_ends cX29_ends 4 none) { frames := 1, cells := 0, slots := 0, locals := 24 } [jR (some (β + 5000 + 20 * t)), jL y, jR x] false τ I L r (fun v' τ' I' L' r' => v' = none ∧ τ' = τ ∧ I' = I ∧ cr_rel β ss e N ρ pl (m_ends t v g σ) τ I L' r') jj_no := by
  have hk := h.tk t ht
  refine (v_Tends G τ I L r (β + 5000 + 20 * t) (β + 5000 + 20 * t + 1) (β + 5000 + 20 * t + 2) (β + 5000 + 20 * t + 3) hk.k.k0 hk.l.re hk.k.k1 hk.l.r0 hk.l.r1 hk.k.k2 hk.k.k3 y x hx9).imp ?_ ?_
  · rintro _ _ _ _ _ ⟨rfl, rfl, rfl, rfl, rfl⟩
    exact ⟨rfl, rfl, rfl, at_ends h ht v g y x hy hx h0⟩
  · exact fun _ _ _ _ _ z => z

theorem v_cslot (G : jj_G) (τ : jj_T) (I : jj_I) (L : jj_L) (r : jj_R) {β : Nat} {ss : List Nat} {e N : Nat → Nat} {ρ : jm} {pl : Nat → Int32} {σ : jm} (h : cr_rel β ss e N ρ pl σ τ I L r) {t : Nat} (ht : t < nv (σ.1 0 11)) (a : Nat) (ha : a < 8) (v : Int64) (g : Int32) (y : Int64) (x : Option Nat) (hy : y = cr_nu g v) (hx : x = cr_hr β g v) (hx9 : ∀ w, x = some w → τ w = some (.inl 29)) : kk_M G yX30_put (ws_ yX30_put cX30_put 5 none) { frames := 0, cells := 0, slots := 0, locals := 0 } [jR (some (β + 5000 + 20 * t + 4)), jI (nI a), jL y, jR x] false τ I L r (fun v' τ' I' L' r' => v' = none ∧ τ' = τ ∧ I' = I ∧ cr_rel β ss e N ρ pl (m_u (m_v σ 28 (8 * t + a) v) 29 (8 * t + a) g) τ I L' r') jj_no := by
  have hk := h.tk t ht
  refine (v_Vput30 G τ I L r (β + 5000 + 20 * t + 4) (β + 5000 + 20 * t + 5) (β + 5000 + 20 * t + 6) 8 hk.k.k4 hk.l.s0 hk.l.s1 hk.k.k5 hk.k.k6 (by decide) a y x ha hx9).imp ?_ ?_
  · rintro _ _ _ _ _ ⟨rfl, rfl, rfl, rfl, rfl⟩
    exact ⟨rfl, rfl, rfl, at_slot h ht a v g y x hy hx ha⟩
  · exact fun _ _ _ _ _ z => z

theorem v_cwrite (G : jj_G) (τ : jj_T) (I : jj_I) (L : jj_L) (r : jj_R) {β : Nat} {ss : List Nat} {e N : Nat → Nat} {ρ : jm} {pl : Nat → Int32} {σ : jm} (h : cr_rel β ss e N ρ pl σ τ I L r) {s : Nat} (hs : s < nv (σ.1 0 36)) (c : Nat) (v : Int64) (hc : c < 16) : kk_M G yX28_write (ws_ yX28_write cX28_write 4 none) { frames := 0, cells := 0, slots := 0, locals := 0 } [jR (some (β + 1000 + 10 * s)), jI (nI c), jL v] false τ I L r (fun v' τ' I' L' r' => v' = none ∧ τ' = τ ∧ r' = r ∧ cr_rel β ss e N ρ pl (m_v (m_u σ 39 (16 * s + c) 1) 40 (16 * s + c) v) τ I' L' r) jj_no := by
  have hk := h.sg s hs
  refine (v_write G τ I L r (β + 1000 + 10 * s) (β + 1000 + 10 * s + 1) hk.k0 hk.l2 hk.k1 c v hc).imp ?_ (fun _ _ _ _ _ z => z)
  rintro _ _ _ _ _ ⟨rfl, rfl, rfl, rfl, rfl⟩
  exact ⟨rfl, rfl, rfl, at_write h hs c v hc⟩

theorem v_ccomes (G : jj_G) (τ : jj_T) (I : jj_I) (L : jj_L) (r : jj_R) {β : Nat} {ss : List Nat} {e N : Nat → Nat} {ρ : jm} {pl : Nat → Int32} {σ : jm} (h : cr_rel β ss e N ρ pl σ τ I L r) {t : Nat} (ht : t < nv (σ.1 0 11)) (hb : nv (σ.1 13 t) < nv (σ.1 0 0)) (hpl : pl t = σ.1 14 t) (hp : jb (σ.1 14 t) 40) (hs : jb (σ.1 2 (nv (σ.1 13 t))) 40) : kk_M G yX29_comes (ws_ yX29_comes cX29_comes 1 none) { frames := 2, cells := 0, slots := 0, locals := 47 } [jR (some (β + 5000 + 20 * t))] false τ I L r (fun v' τ' I' L' r' => v' = none ∧ τ' = τ ∧ I' = I ∧ cr_rel β ss e N ρ pl (m_eb t σ) τ I L' r') jj_no := by
  have hk := h.tk t ht
  have hst := hk.v.st
  unfold m_eb
  by_cases h0 : σ.1 15 t = 0
  · rw [if_pos h0]
    have hx : r (β + 5000 + 20 * t) 10 = some 1 := (cr_st_0 hst).mpr h0
    have hbb := h.bl _ hb
    by_cases hc : σ.1 14 t < σ.1 2 (nv (σ.1 13 t))
    · rw [if_pos hc]
      have hc2 : nv (σ.1 14 t) < nv (σ.1 2 (nv (σ.1 13 t))) := Nat.not_le.mp fun z => absurd hc (Int32.not_lt.mpr (by rw [hp.1, hs.1]; exact nI_le z (by have := hp.2; omega)))
      refine (v_comesN G τ I L r (β + 5000 + 20 * t) (100 + 10 * nv (σ.1 13 t)) (nv (σ.1 14 t)) (nv (σ.1 2 (nv (σ.1 13 t)))) hk.k.k0 hx hk.f.bl hbb.k0 (hk.v.pl.trans (hpl.trans hp.1)) (hbb.sz.trans hs.1) (by have := hs.2; omega) (by have := hp.2; omega) hc2).imp ?_ (fun _ _ _ _ _ z => z)
      rintro _ _ _ _ _ ⟨rfl, rfl, rfl, rfl, rfl⟩
      exact ⟨rfl, rfl, rfl, h⟩
    · rw [if_neg hc]
      have hc2 : nv (σ.1 2 (nv (σ.1 13 t))) ≤ nv (σ.1 14 t) := Nat.not_lt.mp fun z => hc (by rw [hp.1, hs.1]; exact nI_lt z (by have := hs.2; omega))
      refine (v_comesE G τ I L r (β + 5000 + 20 * t) (100 + 10 * nv (σ.1 13 t)) (nv (σ.1 14 t)) (nv (σ.1 2 (nv (σ.1 13 t)))) hk.k.k0 hx hk.f.bl hbb.k0 (hk.v.pl.trans (hpl.trans hp.1)) (hbb.sz.trans hs.1) (by have := hs.2; omega) (by have := hp.2; omega) hc2 (β + 5000 + 20 * t + 1) (β + 5000 + 20 * t + 2) (β + 5000 + 20 * t + 3) hk.l.re hk.k.k1 hk.l.r0 hk.l.r1 hk.k.k2 hk.k.k3).imp ?_ (fun _ _ _ _ _ z => z)
      rintro _ _ _ _ _ ⟨rfl, rfl, rfl, rfl, rfl⟩
      exact ⟨rfl, rfl, rfl, at_ends h ht 0 0 0 none rfl rfl h0⟩
  · rw [if_neg h0]
    refine (v_comesO G τ I L r (β + 5000 + 20 * t) hk.k.k0 _ rfl (kk_x12 hst) (fun z => h0 ((cr_st_0 hst).mp z))).imp ?_ (fun _ _ _ _ _ z => z)
    rintro _ _ _ _ _ ⟨rfl, rfl, rfl, rfl, rfl⟩
    exact ⟨rfl, rfl, rfl, h⟩
