set_option maxRecDepth 100000
theorem kk_callUU {X : jj_X} {o : jj_T} {cc : ByteArray} {own : String} {nL fr lo mc ms : Nat} {Q : State → Prop} {k n pc : Nat} {ls : List (Nat × jj_v)} {st rest : List jj_v} {τ : jj_T} {I : jj_I} {L : jj_L} {r : jj_R} {y : MethodName} {bytes : ByteArray} {maxL : Nat} {ret : Option FieldType} {rm : Room} {As : List jj_v} {fb : Bool} {P : jj_P} {PX : jj_PX} {idx b ci : Nat} {C : String} {T : u_T} {N : Nat} (hX : kk_ok X cc own nL fr lo mc ms) (hM : kk_M X.1 y (ws_ y bytes maxL ret) rm (jR (some b) :: As) fb τ I L r P PX) (hdg : decode cc pc = .ok (.invokevirtual idx, 3)) {x : MethodName} {owner : String} (hw : GoodIn lw_all (va_wsU own idx C owner x y (ws_ y bytes maxL ret))) (hw2 : y = ⟨owner, x.name, x.desc⟩) (hy : owner ≠ "java/lang/invoke/MethodHandle" ∧ owner ≠ "java/lang/invoke/VarHandle" ∧ (parseMethodDescriptor x.desc).map (fun d => d.parameters.length) = some As.length) (hn : rm.frames + 1 ≤ fr ∧ 8 + (maxL + 11) + rm.locals ≤ lo ∧ k + rm.cells ≤ mc ∧ n + rm.slots ≤ ms ∧ jj_wt rest ≤ 8) (hfb : fb = true → jj_Fr X) (hτ : τ b = some (.inl ci)) (hc : jj_cl[ci]? = some (C, T, N)) (hst : st = As.reverse ++ jR (some b) :: rest) (kk : ∀ (v : Option jj_v) (τ' : jj_T) (I' : jj_I) (L' : jj_L) (r' : jj_R), P v τ' I' L' r' → kk_J X o Q (k + rm.cells) (n + rm.slots) (pc + 3) ls (v.toList ++ rest) τ' I' L' r') (kx : ∀ (a : Nat) (τ' : jj_T) (I' : jj_I) (L' : jj_L) (r' : jj_R), PX a τ' I' L' r' → kk_JT X o Q (k + rm.cells) (n + rm.slots) pc ls a τ' I' L' r') : kk_J X o Q k n pc ls st τ I L r := by
  obtain ⟨⟨l, D, aC, ad0, A, sa⟩, p, e, R, s, m, args, below, meth, c⟩ := X
  intro ad ha9 hW hls hst9 H locs la hl hV hS
  have hsp : kk_vs τ (jR (some b) :: As) ∧ kk_vs τ rest := by
    rw [hst] at hst9
    exact ⟨⟨(kk_apr hst9).2.1, kk_rev (kk_apr hst9).1⟩, (kk_apr hst9).2.2⟩
  obtain ⟨hsa, hrs⟩ := hsp
  have hM := hM ad hW.self hsa
  have hX' := hX.1
  obtain ⟨hx, hb, hml, hown, hts, hK, hTw, hFw, hSt, hlk, hRf, hRl, hRc, hRs⟩ := hX'
  obtain ⟨hn1, hn2, hn3, hn4, hn5⟩ := hn
  have hfl : rm.frames + 1 ≤ R.frames ∧ 8 + (maxL + 11) + rm.locals ≤ R.locals := ⟨by rw [hRf]; exact hn1, by rw [hRl]; exact hn2⟩
  have hcs : k + rm.cells ≤ R.cells ∧ n + rm.slots ≤ R.slots := ⟨by rw [hRc]; exact hn3, by rw [hRs]; exact hn4⟩
  have hw8 : 2 * (F0 m pc la (st.map (jj_c ad))).monitorRoom + ((rest.map (jj_c ad)).map fun v => v.category).sum ≤ 8 := lv_room (by rw [jj_wtc]; exact hn5)
  obtain ⟨q, h1, cell, q1, q2, q3, q4⟩ := hV.1 b _ hτ
  cases h1.symm.trans hc
  have hKn := hK.1 ci _ hc
  have hrecv : ∃ cellB : Cell, H[ad b]? = some cellB ∧ cellB.vm.isStatics = false ∧ s.vm.findClass C = some cellB.cls := ⟨cell, q1, by rw [q3]; rfl, by rw [q2]; exact hKn.2.1⟩
  refine kk_after (l := l) (D := D) (aC := aC) (ad := ad) (ad0 := ad0) (A := A) (sa := sa) (P := P) (PX := PX) (rest := rest) (τ := τ) (o := o) (vy_runU (C := C) (owner := owner) (x := x) (bytes := bytes) (maxL := maxL) (ret := ret) (As := As.map (jj_c ad)) ⟨hx, hb, hml, hown, hts⟩ hM (va_cwU As.length hts hw rfl rfl rfl hw2 hy hfl) ⟨kk_blind (l, D, aC, ad, A, sa) _ τ I L r (fun H => (fb = true → ∀ q, H.size ≤ q → A q) ∧ ∀ i, i ≤ 6 → sa i < H.size), hrecv, fun U hU hw9 => ⟨by rw [List.map_cons]; rfl, kk_pre hX hV hS hfb hU hw9⟩⟩ rfl (by simp) (hl.1.trans hml) (by show st.map (jj_c ad) = _; rw [hst]; simp [List.map_append, List.map_reverse, jj_c, va_rf]) hw8 hdg hcs) hl hS ha9 hW hls hrs kk kx

theorem jj_wU {own : String} {idx : Nat} {C owner : String} {x y : MethodName} (h1 : Cond.methodLink own idx x ∈ lw_all) (h2 : Cond.sameMethod x.cls owner x.name x.desc ∈ lw_all) (h3 : Cond.selects C x y ∈ lw_all) (h4 : Cond.instanceMethod y ∈ lw_all) (h5 : Cond.initialized y.cls ∈ lw_all) {ws : List Cond} (hc : GoodIn lw_all ws) : GoodIn lw_all (va_wsU own idx C owner x y ws) := by
  refine lw_app ?_ hc
  intro w hw
  simp only [List.mem_cons, List.not_mem_nil, or_false] at hw
  rcases hw with e | e | e | e | e <;> rw [e] <;> assumption
theorem kk_t0 {X : jj_X} {o : jj_T} {Q : State → Prop} {k n pc : Nat} {ls : List (Nat × jj_v)} {st : List jj_v} {τ : jj_T} {I : jj_I} {L : jj_L} {r : jj_R} (kk : τ 0 = some (.inr (3, 0)) → kk_J X o Q k n pc ls st τ I L r) : kk_J X o Q k n pc ls st τ I L r := fun ad ha9 hW => kk hW.2.1.1 ad ha9 hW
theorem m_eb_14 {t u : Nat} {σ : jm} : (m_eb t σ).1 14 u = σ.1 14 u := m_eb_k (by decide)
theorem m_eb_3 {t : Nat} {w : Int32} {σ : jm} : m_eb t (m_fails t w σ) = m_fails t w σ := by
  unfold m_eb
  rw [if_neg]
  unfold m_fails
  rw [mu_n (Or.inl (by decide)), mu_s]
  decide
theorem m_fails_15 {t : Nat} {w : Int32} {σ : jm} : (m_fails t w σ).1 15 t = 3 := by
  unfold m_fails
  rw [mu_n (Or.inl (by decide)), mu_s]
theorem m_fails_o {t : Nat} {w : Int32} {σ : jm} {k j : Nat} (h : k ≠ 15 ∧ k ≠ 16) : (m_fails t w σ).1 k j = σ.1 k j := by
  unfold m_fails
  rw [mu_n (Or.inl h.2), mu_n (Or.inl h.1)]
theorem v_fin {X : jj_X} {o : jj_T} {mc ms : Nat} (hX : kk_ok X cX0_does "BranchCells" 6 10 245 mc ms) (hr : jj_Ret X none) {τ : jj_T} {I : jj_I} {L : jj_L} {r : jj_R} {β : Nat} {ss : List Nat} {e N : Nat → Nat} {ρ : jm} {pl : Nat → Int32} {t : Nat} {σ9 σe : jm} (hE : m_eb t σ9 = σe) (hi : m_inv σe) (ht : t < nv (σ9.1 0 11)) (h : cr_rel β ss e N ρ pl σ9 τ I L r) (hpl : ∀ u, u < nv (σ9.1 0 11) → pl u = σ9.1 14 u) {k n : Nat} (hkn : k ≤ mc ∧ n ≤ ms) : kk_J X o (kk_End X o (fun v' τ' I' L' r' => v' = none ∧ ∃ ss' e' N', cr_rel β ss' e' N' ρ (σe.1 14) σe τ' I' L' r') jj_no mc ms) k n 164 [(1, jR (some (β + 5000 + 20 * t)))] [] τ I L r := by
  subst hE
  have hk := h.tk t ht
  have q : ∀ {k j : Nat}, k ≠ 15 ∧ k ≠ 25 ∧ k ≠ 27 → (m_eb t σ9).1 k j = σ9.1 k j := fun hk => m_eb_k hk
  have ht2 : t < nv ((m_eb t σ9).1 0 11) := by rw [q (by decide)]; exact ht
  have hb := (hi.tk t ht2).blk
  have hp := (hi.tk t ht2).pl.1
  have hc := hi.cm (nv (σ9.1 13 t)) (by have := hi.bl.2; rw [q (by decide), q (by decide)] at hb; rw [q (by decide)] at this; omega)
  rw [q (by decide), q (by decide)] at hb
  rw [q (by decide)] at hp hc
  refine kk_aload_n (pc := 164) hX dX0_does_164 rfl ?_
  refine kk_callV (pc := 165) hX (v_ccomes X.1 _ _ _ _ h ht hb.2 (hpl t ht) hp hc) dX0_does_165 (lw_V q917 q918 q919 q88 q920) rfl ⟨by decide +kernel, by decide +kernel, by show _ = some (0 : Nat); decide +kernel⟩ ⟨Nat.le_of_ble_eq_true rfl, Nat.le_of_ble_eq_true rfl, hkn.1, hkn.2, Nat.le_of_ble_eq_true rfl⟩ (fun q => by cases q) hk.k.k0 jc_29 rfl (fun _ _ _ L2 r2 hP => ?_) jj_kno
  obtain ⟨rfl, rfl, rfl, h2⟩ := hP
  refine kk_vret (pc := 168) hX dX0_does_168 hr ⟨hkn.1, hkn.2⟩ ?_
  exact ⟨rfl, _, _, _, h2.plc fun u hu => by rw [q (by decide)] at hu ⊢; exact (hpl u hu).symm⟩

theorem v_catch {X : jj_X} {o : jj_T} {mc ms : Nat} (hX : kk_ok X cX0_does "BranchCells" 6 10 245 mc ms) (hr : jj_Ret X none) {τ : jj_T} {I : jj_I} {L : jj_L} {r : jj_R} {β : Nat} {ss : List Nat} {e N : Nat → Nat} {ρ : jm} {pl : Nat → Int32} (hT : jj_Tbl X (tableOf [((67 : Nat), (137 : Nat), (140 : Nat), (9 : Nat))])) {t : Nat} {σF σe : jm} {w op a at9 : Int32} (hE : m_fails t w σF = σe) (hi : m_inv σe) (ht : t < nv (σF.1 0 11)) (h0 : σF.1 15 t = 0) (h : cr_rel β ss e N ρ pl σF τ I L r) (hat : at9 = σF.1 14 t) (hpl : ∀ u, u ≠ t → pl u = σF.1 14 u) {a9 : Nat} (hw : I a9 6 = w) {k n pc : Nat} (hkn : k ≤ mc ∧ n ≤ ms) (hpc : 67 ≤ pc ∧ pc < 137) : kk_JT X o (kk_End X o (fun v' τ' I' L' r' => v' = none ∧ ∃ ss' e' N', cr_rel β ss' e' N' ρ (σe.1 14) σe τ' I' L' r') jj_no mc ms) k n pc [(0, jR (some 10)), (1, jR (some (β + 5000 + 20 * t))), (2, jI op), (3, jI a), (4, jI at9)] a9 τ I L r := by
  have hk := h.tk t ht
  refine kk_catch hX hT (by unfold covers; simp; omega) (by decide) q961 (jj_inT q964 rfl) (fun h32 => ?_)
  have hne : a9 ≠ (β + 5000 + 20 * t) := fun z => by rw [z, hk.k.k0] at h32; cases h32
  refine kk_astore (pc := 140) hX dX0_does_140 (by decide) ?_
  refine kk_aload_n (pc := 142) hX dX0_does_142 rfl ?_
  refine kk_iload (pc := 143) hX dX0_does_143 rfl ?_
  refine kk_putI (pc := 145) hX fl_X0_328_29 dX0_does_145 hk.k.k0 rfl rfl ?_
  refine kk_aload_n (pc := 148) hX dX0_does_148 rfl ?_
  refine kk_aload (pc := 149) hX dX0_does_149 rfl ?_
  refine kk_getI (pc := 151) hX fl_X0_342_32 dX0_does_151 h32 rfl ?_
  refine kk_top w (Eq.trans (jj_un (Or.inl hne)) hw) ?_
  refine kk_putI (pc := 154) hX fl_X0_226_29 dX0_does_154 hk.k.k0 rfl rfl ?_
  refine kk_aload_n (pc := 157) hX dX0_does_157 rfl ?_
  refine kk_gets3 (pc := 158) hX dX0_does_158 q1168 ?_
  refine kk_putR (pc := 161) hX fl_X0_217_29 dX0_does_161 hk.k.k0 rfl ?_
  have h2 := at_pl h ht at9
  have h3 := at_fails h2 ht w h0
  refine kk_lss [(1, jR (some (β + 5000 + 20 * t)))] ⟨rfl, trivial⟩ ?_
  exact v_fin hX hr (m_eb_3.trans hE) hi (by rw [m_fails_o (by decide)]; exact ht) h3 (fun u hu => by
    show cr_pl pl t at9 u = (m_fails t w σF).1 14 u
    rw [m_fails_o (by decide)]
    unfold cr_pl
    by_cases hu2 : u = t
    · rw [if_pos hu2, hu2]; exact hat
    · rw [if_neg hu2]; exact hpl u hu2) hkn

theorem s2_0 {t : Nat} {σ : jm} : m_s2 t 0 σ = σ := by
  unfold m_s2
  rw [Int32.sub_zero]
  refine Prod.ext (funext fun a => funext fun b => ?_) rfl
  show jj_u σ.1 32 t (σ.1 32 t) a b = σ.1 a b
  unfold jj_u
  split
  · next z => rw [z.1, z.2]
  · rfl
theorem dn_ok {t : Nat} {nx : Int32} {σ : jm} (h : ¬ σ.1 15 t = 3) : m_dn t nx σ = m_eb t (m_u σ 14 t nx) := by
  unfold m_dn
  rw [if_neg h]
theorem st_few {t j : Nat} {a : Int32} {σ : jm} (h : ¬ nI (m_tk j) ≤ σ.1 32 t) : m_fails t 8 σ = m_s5 t j a σ := by
  unfold m_s5
  rw [if_neg h]
theorem st_ok3 {t j : Nat} {a n : Int32} {x y : Int64} {xh nx : Int32} {σ σD : jm} (hf : m_fault t j a x y (m_s2 t n σ) ≤ 0) (hD : m_do t j a x xh y (m_s2 t n σ) = σD) (hn : m_next t j a x (m_s2 t n σ) = nx) (hst : ¬ σD.1 15 t = 3) : m_eb t (m_u σD 14 t nx) = m_s3 t j a n x xh y σ := by
  unfold m_s3 m_does
  rw [if_pos hf, hD, hn, dn_ok hst]
theorem st_bad3 {t j : Nat} {a n : Int32} {x y : Int64} {xh w : Int32} {σ : jm} (hf : m_fault t j a x y (m_s2 t n σ) = w) (hw : ¬ w ≤ 0) : m_fails t w (m_s2 t n σ) = m_s3 t j a n x xh y σ := by
  unfold m_s3
  rw [hf, if_neg hw]
theorem st_0 {t j : Nat} {a : Int32} {σ : jm} (hj : m_tk j = 0) (hg : nI (m_tk j) ≤ σ.1 32 t) : m_s5 t j a σ = m_s3 t j a 0 0 0 0 σ := by
  unfold m_s5 m_s4
  rw [if_pos hg, hj]
  rfl
theorem st_1 {t j : Nat} {a : Int32} {σ : jm} (hj : m_tk j = 1) (hg : nI (m_tk j) ≤ σ.1 32 t) (h1 : 1 ≤ nv (σ.1 32 t)) : m_s5 t j a σ = if σ.1 31 (12 * t + (nv (σ.1 32 t) - 1)) = 0 then (if m_any j then m_s3 t j a 1 (σ.2 30 (12 * t + (nv (σ.1 32 t) - 1))) 0 0 σ else if j = 18 then m_fails t 2 (m_s2 t 1 σ) else m_s3 t j a 1 (σ.2 30 (12 * t + (nv (σ.1 32 t) - 1))) 0 0 σ) else (if m_any j then m_s3 t j a 1 (σ.2 30 (12 * t + (nv (σ.1 32 t) - 1))) 1 0 σ else if j = 18 then m_s3 t j a 1 (σ.2 30 (12 * t + (nv (σ.1 32 t) - 1))) 1 0 σ else m_fails t 2 (m_s2 t 1 σ)) := by
  unfold m_s5 m_s4
  rw [if_pos hg, hj, show 12 * t + (nv (σ.1 32 t) - 1) = m_lo t 1 σ from by unfold m_lo; omega]
  rfl
theorem st_2 {t j : Nat} {a : Int32} {σ : jm} (hj : m_tk j = 2) (hg : nI (m_tk j) ≤ σ.1 32 t) (h2 : 2 ≤ nv (σ.1 32 t)) : m_s5 t j a σ = if σ.1 31 (12 * t + (nv (σ.1 32 t) - 1 - 1)) = 0 then (if σ.1 31 (12 * t + (nv (σ.1 32 t) - 1)) = 0 then m_s3 t j a 2 (σ.2 30 (12 * t + (nv (σ.1 32 t) - 1 - 1))) 0 (σ.2 30 (12 * t + (nv (σ.1 32 t) - 1))) σ else m_fails t 2 (m_s2 t 2 σ)) else m_fails t 2 (m_s2 t 2 σ) := by
  unfold m_s5 m_s4
  rw [if_pos hg, hj, show 12 * t + (nv (σ.1 32 t) - 1) = m_lo t 2 σ + 1 from by unfold m_lo; omega, show 12 * t + (nv (σ.1 32 t) - 1 - 1) = m_lo t 2 σ from by unfold m_lo; omega]
  rfl
theorem v_takes0 (G : jj_G) (τ : jj_T) (I : jj_I) (L : jj_L) (r : jj_R) (th : Nat) (hth : τ th = some (.inl 2)) (v : Int32) (hv : I th 0 = v) : kk_M G yX1_takes (ws_ yX1_takes cX1_takes 1 (some .int)) { frames := 0, cells := 0, slots := 0, locals := 0 } [jR (some th)] false τ I L r (jj_eq (some (jI v)) τ I L r) jj_no := by
  refine kk_intro "BranchCells$Doer" (by decide) rfl (Nat.le_of_ble_eq_true rfl) ?_
  intro X hG hX hr hN hC hF hAd
  refine kk_aload_n (pc := 0) hX dX1_takes_0 rfl ?_
  refine kk_getI (pc := 1) hX fl_X1_13_2 dX1_takes_1 hth rfl ?_
  refine kk_top v hv ?_
  exact kk_iret (pc := 4) hX dX1_takes_4 hr ⟨Nat.le_refl _, Nat.le_refl _⟩ (⟨rfl, rfl, rfl, rfl, rfl⟩)

theorem v_takes1 (G : jj_G) (τ : jj_T) (I : jj_I) (L : jj_L) (r : jj_R) (th : Nat) (hth : τ th = some (.inl 3)) (v : Int32) (hv : I th 0 = v) : kk_M G yX1_takes (ws_ yX1_takes cX1_takes 1 (some .int)) { frames := 0, cells := 0, slots := 0, locals := 0 } [jR (some th)] false τ I L r (jj_eq (some (jI v)) τ I L r) jj_no := by
  refine kk_intro "BranchCells$Doer" (by decide) rfl (Nat.le_of_ble_eq_true rfl) ?_
  intro X hG hX hr hN hC hF hAd
  refine kk_aload_n (pc := 0) hX dX1_takes_0 rfl ?_
  refine kk_getI (pc := 1) hX fl_X1_13_3 dX1_takes_1 hth rfl ?_
  refine kk_top v hv ?_
  exact kk_iret (pc := 4) hX dX1_takes_4 hr ⟨Nat.le_refl _, Nat.le_refl _⟩ (⟨rfl, rfl, rfl, rfl, rfl⟩)

theorem v_takes2 (G : jj_G) (τ : jj_T) (I : jj_I) (L : jj_L) (r : jj_R) (th : Nat) (hth : τ th = some (.inl 4)) (v : Int32) (hv : I th 0 = v) : kk_M G yX1_takes (ws_ yX1_takes cX1_takes 1 (some .int)) { frames := 0, cells := 0, slots := 0, locals := 0 } [jR (some th)] false τ I L r (jj_eq (some (jI v)) τ I L r) jj_no := by
  refine kk_intro "BranchCells$Doer" (by decide) rfl (Nat.le_of_ble_eq_true rfl) ?_
  intro X hG hX hr hN hC hF hAd
  refine kk_aload_n (pc := 0) hX dX1_takes_0 rfl ?_
  refine kk_getI (pc := 1) hX fl_X1_13_4 dX1_takes_1 hth rfl ?_
  refine kk_top v hv ?_
  exact kk_iret (pc := 4) hX dX1_takes_4 hr ⟨Nat.le_refl _, Nat.le_refl _⟩ (⟨rfl, rfl, rfl, rfl, rfl⟩)

theorem v_takes3 (G : jj_G) (τ : jj_T) (I : jj_I) (L : jj_L) (r : jj_R) (th : Nat) (hth : τ th = some (.inl 5)) (v : Int32) (hv : I th 0 = v) : kk_M G yX1_takes (ws_ yX1_takes cX1_takes 1 (some .int)) { frames := 0, cells := 0, slots := 0, locals := 0 } [jR (some th)] false τ I L r (jj_eq (some (jI v)) τ I L r) jj_no := by
  refine kk_intro "BranchCells$Doer" (by decide) rfl (Nat.le_of_ble_eq_true rfl) ?_
  intro X hG hX hr hN hC hF hAd
  refine kk_aload_n (pc := 0) hX dX1_takes_0 rfl ?_
  refine kk_getI (pc := 1) hX fl_X1_13_5 dX1_takes_1 hth rfl ?_
  refine kk_top v hv ?_
  exact kk_iret (pc := 4) hX dX1_takes_4 hr ⟨Nat.le_refl _, Nat.le_refl _⟩ (⟨rfl, rfl, rfl, rfl, rfl⟩)

theorem v_takes4 (G : jj_G) (τ : jj_T) (I : jj_I) (L : jj_L) (r : jj_R) (th : Nat) (hth : τ th = some (.inl 6)) (v : Int32) (hv : I th 0 = v) : kk_M G yX1_takes (ws_ yX1_takes cX1_takes 1 (some .int)) { frames := 0, cells := 0, slots := 0, locals := 0 } [jR (some th)] false τ I L r (jj_eq (some (jI v)) τ I L r) jj_no := by
  refine kk_intro "BranchCells$Doer" (by decide) rfl (Nat.le_of_ble_eq_true rfl) ?_
  intro X hG hX hr hN hC hF hAd
  refine kk_aload_n (pc := 0) hX dX1_takes_0 rfl ?_
  refine kk_getI (pc := 1) hX fl_X1_13_6 dX1_takes_1 hth rfl ?_
  refine kk_top v hv ?_
  exact kk_iret (pc := 4) hX dX1_takes_4 hr ⟨Nat.le_refl _, Nat.le_refl _⟩ (⟨rfl, rfl, rfl, rfl, rfl⟩)

theorem v_takes5 (G : jj_G) (τ : jj_T) (I : jj_I) (L : jj_L) (r : jj_R) (th : Nat) (hth : τ th = some (.inl 8)) (v : Int32) (hv : I th 1 = v) : kk_M G yX1_takes (ws_ yX1_takes cX1_takes 1 (some .int)) { frames := 0, cells := 0, slots := 0, locals := 0 } [jR (some th)] false τ I L r (jj_eq (some (jI v)) τ I L r) jj_no := by
  refine kk_intro "BranchCells$Doer" (by decide) rfl (Nat.le_of_ble_eq_true rfl) ?_
  intro X hG hX hr hN hC hF hAd
  refine kk_aload_n (pc := 0) hX dX1_takes_0 rfl ?_
  refine kk_getI (pc := 1) hX fl_X1_13_8 dX1_takes_1 hth rfl ?_
  refine kk_top v hv ?_
  exact kk_iret (pc := 4) hX dX1_takes_4 hr ⟨Nat.le_refl _, Nat.le_refl _⟩ (⟨rfl, rfl, rfl, rfl, rfl⟩)

theorem v_takes6 (G : jj_G) (τ : jj_T) (I : jj_I) (L : jj_L) (r : jj_R) (th : Nat) (hth : τ th = some (.inl 9)) (v : Int32) (hv : I th 1 = v) : kk_M G yX1_takes (ws_ yX1_takes cX1_takes 1 (some .int)) { frames := 0, cells := 0, slots := 0, locals := 0 } [jR (some th)] false τ I L r (jj_eq (some (jI v)) τ I L r) jj_no := by
  refine kk_intro "BranchCells$Doer" (by decide) rfl (Nat.le_of_ble_eq_true rfl) ?_
  intro X hG hX hr hN hC hF hAd
  refine kk_aload_n (pc := 0) hX dX1_takes_0 rfl ?_
  refine kk_getI (pc := 1) hX fl_X1_13_9 dX1_takes_1 hth rfl ?_
  refine kk_top v hv ?_
  exact kk_iret (pc := 4) hX dX1_takes_4 hr ⟨Nat.le_refl _, Nat.le_refl _⟩ (⟨rfl, rfl, rfl, rfl, rfl⟩)

theorem v_takes7 (G : jj_G) (τ : jj_T) (I : jj_I) (L : jj_L) (r : jj_R) (th : Nat) (hth : τ th = some (.inl 10)) (v : Int32) (hv : I th 1 = v) : kk_M G yX1_takes (ws_ yX1_takes cX1_takes 1 (some .int)) { frames := 0, cells := 0, slots := 0, locals := 0 } [jR (some th)] false τ I L r (jj_eq (some (jI v)) τ I L r) jj_no := by
  refine kk_intro "BranchCells$Doer" (by decide) rfl (Nat.le_of_ble_eq_true rfl) ?_
  intro X hG hX hr hN hC hF hAd
  refine kk_aload_n (pc := 0) hX dX1_takes_0 rfl ?_
  refine kk_getI (pc := 1) hX fl_X1_13_10 dX1_takes_1 hth rfl ?_
  refine kk_top v hv ?_
  exact kk_iret (pc := 4) hX dX1_takes_4 hr ⟨Nat.le_refl _, Nat.le_refl _⟩ (⟨rfl, rfl, rfl, rfl, rfl⟩)

theorem v_takes8 (G : jj_G) (τ : jj_T) (I : jj_I) (L : jj_L) (r : jj_R) (th : Nat) (hth : τ th = some (.inl 11)) (v : Int32) (hv : I th 1 = v) : kk_M G yX1_takes (ws_ yX1_takes cX1_takes 1 (some .int)) { frames := 0, cells := 0, slots := 0, locals := 0 } [jR (some th)] false τ I L r (jj_eq (some (jI v)) τ I L r) jj_no := by
  refine kk_intro "BranchCells$Doer" (by decide) rfl (Nat.le_of_ble_eq_true rfl) ?_
  intro X hG hX hr hN hC hF hAd
  refine kk_aload_n (pc := 0) hX dX1_takes_0 rfl ?_
  refine kk_getI (pc := 1) hX fl_X1_13_11 dX1_takes_1 hth rfl ?_
  refine kk_top v hv ?_
  exact kk_iret (pc := 4) hX dX1_takes_4 hr ⟨Nat.le_refl _, Nat.le_refl _⟩ (⟨rfl, rfl, rfl, rfl, rfl⟩)

theorem v_takes9 (G : jj_G) (τ : jj_T) (I : jj_I) (L : jj_L) (r : jj_R) (th : Nat) (hth : τ th = some (.inl 12)) (v : Int32) (hv : I th 1 = v) : kk_M G yX1_takes (ws_ yX1_takes cX1_takes 1 (some .int)) { frames := 0, cells := 0, slots := 0, locals := 0 } [jR (some th)] false τ I L r (jj_eq (some (jI v)) τ I L r) jj_no := by
  refine kk_intro "BranchCells$Doer" (by decide) rfl (Nat.le_of_ble_eq_true rfl) ?_
  intro X hG hX hr hN hC hF hAd
  refine kk_aload_n (pc := 0) hX dX1_takes_0 rfl ?_
  refine kk_getI (pc := 1) hX fl_X1_13_12 dX1_takes_1 hth rfl ?_
  refine kk_top v hv ?_
  exact kk_iret (pc := 4) hX dX1_takes_4 hr ⟨Nat.le_refl _, Nat.le_refl _⟩ (⟨rfl, rfl, rfl, rfl, rfl⟩)

theorem v_takes10 (G : jj_G) (τ : jj_T) (I : jj_I) (L : jj_L) (r : jj_R) (th : Nat) (hth : τ th = some (.inl 13)) (v : Int32) (hv : I th 1 = v) : kk_M G yX1_takes (ws_ yX1_takes cX1_takes 1 (some .int)) { frames := 0, cells := 0, slots := 0, locals := 0 } [jR (some th)] false τ I L r (jj_eq (some (jI v)) τ I L r) jj_no := by
  refine kk_intro "BranchCells$Doer" (by decide) rfl (Nat.le_of_ble_eq_true rfl) ?_
  intro X hG hX hr hN hC hF hAd
  refine kk_aload_n (pc := 0) hX dX1_takes_0 rfl ?_
  refine kk_getI (pc := 1) hX fl_X1_13_13 dX1_takes_1 hth rfl ?_
  refine kk_top v hv ?_
  exact kk_iret (pc := 4) hX dX1_takes_4 hr ⟨Nat.le_refl _, Nat.le_refl _⟩ (⟨rfl, rfl, rfl, rfl, rfl⟩)

theorem v_takes11 (G : jj_G) (τ : jj_T) (I : jj_I) (L : jj_L) (r : jj_R) (th : Nat) (hth : τ th = some (.inl 14)) (v : Int32) (hv : I th 1 = v) : kk_M G yX1_takes (ws_ yX1_takes cX1_takes 1 (some .int)) { frames := 0, cells := 0, slots := 0, locals := 0 } [jR (some th)] false τ I L r (jj_eq (some (jI v)) τ I L r) jj_no := by
  refine kk_intro "BranchCells$Doer" (by decide) rfl (Nat.le_of_ble_eq_true rfl) ?_
  intro X hG hX hr hN hC hF hAd
  refine kk_aload_n (pc := 0) hX dX1_takes_0 rfl ?_
  refine kk_getI (pc := 1) hX fl_X1_13_14 dX1_takes_1 hth rfl ?_
  refine kk_top v hv ?_
  exact kk_iret (pc := 4) hX dX1_takes_4 hr ⟨Nat.le_refl _, Nat.le_refl _⟩ (⟨rfl, rfl, rfl, rfl, rfl⟩)

theorem v_takes12 (G : jj_G) (τ : jj_T) (I : jj_I) (L : jj_L) (r : jj_R) (th : Nat) (hth : τ th = some (.inl 15)) (v : Int32) (hv : I th 0 = v) : kk_M G yX1_takes (ws_ yX1_takes cX1_takes 1 (some .int)) { frames := 0, cells := 0, slots := 0, locals := 0 } [jR (some th)] false τ I L r (jj_eq (some (jI v)) τ I L r) jj_no := by
  refine kk_intro "BranchCells$Doer" (by decide) rfl (Nat.le_of_ble_eq_true rfl) ?_
  intro X hG hX hr hN hC hF hAd
  refine kk_aload_n (pc := 0) hX dX1_takes_0 rfl ?_
  refine kk_getI (pc := 1) hX fl_X1_13_15 dX1_takes_1 hth rfl ?_
  refine kk_top v hv ?_
  exact kk_iret (pc := 4) hX dX1_takes_4 hr ⟨Nat.le_refl _, Nat.le_refl _⟩ (⟨rfl, rfl, rfl, rfl, rfl⟩)

theorem v_takes13 (G : jj_G) (τ : jj_T) (I : jj_I) (L : jj_L) (r : jj_R) (th : Nat) (hth : τ th = some (.inl 16)) (v : Int32) (hv : I th 0 = v) : kk_M G yX1_takes (ws_ yX1_takes cX1_takes 1 (some .int)) { frames := 0, cells := 0, slots := 0, locals := 0 } [jR (some th)] false τ I L r (jj_eq (some (jI v)) τ I L r) jj_no := by
  refine kk_intro "BranchCells$Doer" (by decide) rfl (Nat.le_of_ble_eq_true rfl) ?_
  intro X hG hX hr hN hC hF hAd
  refine kk_aload_n (pc := 0) hX dX1_takes_0 rfl ?_
  refine kk_getI (pc := 1) hX fl_X1_13_16 dX1_takes_1 hth rfl ?_
  refine kk_top v hv ?_
  exact kk_iret (pc := 4) hX dX1_takes_4 hr ⟨Nat.le_refl _, Nat.le_refl _⟩ (⟨rfl, rfl, rfl, rfl, rfl⟩)

theorem v_takes14 (G : jj_G) (τ : jj_T) (I : jj_I) (L : jj_L) (r : jj_R) (th : Nat) (hth : τ th = some (.inl 17)) (v : Int32) (hv : I th 0 = v) : kk_M G yX1_takes (ws_ yX1_takes cX1_takes 1 (some .int)) { frames := 0, cells := 0, slots := 0, locals := 0 } [jR (some th)] false τ I L r (jj_eq (some (jI v)) τ I L r) jj_no := by
  refine kk_intro "BranchCells$Doer" (by decide) rfl (Nat.le_of_ble_eq_true rfl) ?_
  intro X hG hX hr hN hC hF hAd
  refine kk_aload_n (pc := 0) hX dX1_takes_0 rfl ?_
  refine kk_getI (pc := 1) hX fl_X1_13_17 dX1_takes_1 hth rfl ?_
  refine kk_top v hv ?_
  exact kk_iret (pc := 4) hX dX1_takes_4 hr ⟨Nat.le_refl _, Nat.le_refl _⟩ (⟨rfl, rfl, rfl, rfl, rfl⟩)

theorem v_takes15 (G : jj_G) (τ : jj_T) (I : jj_I) (L : jj_L) (r : jj_R) (th : Nat) (hth : τ th = some (.inl 18)) (v : Int32) (hv : I th 0 = v) : kk_M G yX1_takes (ws_ yX1_takes cX1_takes 1 (some .int)) { frames := 0, cells := 0, slots := 0, locals := 0 } [jR (some th)] false τ I L r (jj_eq (some (jI v)) τ I L r) jj_no := by
  refine kk_intro "BranchCells$Doer" (by decide) rfl (Nat.le_of_ble_eq_true rfl) ?_
  intro X hG hX hr hN hC hF hAd
  refine kk_aload_n (pc := 0) hX dX1_takes_0 rfl ?_
  refine kk_getI (pc := 1) hX fl_X1_13_18 dX1_takes_1 hth rfl ?_
  refine kk_top v hv ?_
  exact kk_iret (pc := 4) hX dX1_takes_4 hr ⟨Nat.le_refl _, Nat.le_refl _⟩ (⟨rfl, rfl, rfl, rfl, rfl⟩)

theorem v_takes16 (G : jj_G) (τ : jj_T) (I : jj_I) (L : jj_L) (r : jj_R) (th : Nat) (hth : τ th = some (.inl 19)) (v : Int32) (hv : I th 0 = v) : kk_M G yX1_takes (ws_ yX1_takes cX1_takes 1 (some .int)) { frames := 0, cells := 0, slots := 0, locals := 0 } [jR (some th)] false τ I L r (jj_eq (some (jI v)) τ I L r) jj_no := by
  refine kk_intro "BranchCells$Doer" (by decide) rfl (Nat.le_of_ble_eq_true rfl) ?_
  intro X hG hX hr hN hC hF hAd
  refine kk_aload_n (pc := 0) hX dX1_takes_0 rfl ?_
  refine kk_getI (pc := 1) hX fl_X1_13_19 dX1_takes_1 hth rfl ?_
  refine kk_top v hv ?_
  exact kk_iret (pc := 4) hX dX1_takes_4 hr ⟨Nat.le_refl _, Nat.le_refl _⟩ (⟨rfl, rfl, rfl, rfl, rfl⟩)

theorem v_takes17 (G : jj_G) (τ : jj_T) (I : jj_I) (L : jj_L) (r : jj_R) (th : Nat) (hth : τ th = some (.inl 20)) (v : Int32) (hv : I th 0 = v) : kk_M G yX1_takes (ws_ yX1_takes cX1_takes 1 (some .int)) { frames := 0, cells := 0, slots := 0, locals := 0 } [jR (some th)] false τ I L r (jj_eq (some (jI v)) τ I L r) jj_no := by
  refine kk_intro "BranchCells$Doer" (by decide) rfl (Nat.le_of_ble_eq_true rfl) ?_
  intro X hG hX hr hN hC hF hAd
  refine kk_aload_n (pc := 0) hX dX1_takes_0 rfl ?_
  refine kk_getI (pc := 1) hX fl_X1_13_20 dX1_takes_1 hth rfl ?_
  refine kk_top v hv ?_
  exact kk_iret (pc := 4) hX dX1_takes_4 hr ⟨Nat.le_refl _, Nat.le_refl _⟩ (⟨rfl, rfl, rfl, rfl, rfl⟩)

theorem v_takes18 (G : jj_G) (τ : jj_T) (I : jj_I) (L : jj_L) (r : jj_R) (th : Nat) (hth : τ th = some (.inl 21)) (v : Int32) (hv : I th 0 = v) : kk_M G yX1_takes (ws_ yX1_takes cX1_takes 1 (some .int)) { frames := 0, cells := 0, slots := 0, locals := 0 } [jR (some th)] false τ I L r (jj_eq (some (jI v)) τ I L r) jj_no := by
  refine kk_intro "BranchCells$Doer" (by decide) rfl (Nat.le_of_ble_eq_true rfl) ?_
  intro X hG hX hr hN hC hF hAd
  refine kk_aload_n (pc := 0) hX dX1_takes_0 rfl ?_
  refine kk_getI (pc := 1) hX fl_X1_13_21 dX1_takes_1 hth rfl ?_
  refine kk_top v hv ?_
  exact kk_iret (pc := 4) hX dX1_takes_4 hr ⟨Nat.le_refl _, Nat.le_refl _⟩ (⟨rfl, rfl, rfl, rfl, rfl⟩)

theorem v_takes19 (G : jj_G) (τ : jj_T) (I : jj_I) (L : jj_L) (r : jj_R) (th : Nat) (hth : τ th = some (.inl 22)) (v : Int32) (hv : I th 0 = v) : kk_M G yX1_takes (ws_ yX1_takes cX1_takes 1 (some .int)) { frames := 0, cells := 0, slots := 0, locals := 0 } [jR (some th)] false τ I L r (jj_eq (some (jI v)) τ I L r) jj_no := by
  refine kk_intro "BranchCells$Doer" (by decide) rfl (Nat.le_of_ble_eq_true rfl) ?_
  intro X hG hX hr hN hC hF hAd
  refine kk_aload_n (pc := 0) hX dX1_takes_0 rfl ?_
  refine kk_getI (pc := 1) hX fl_X1_13_22 dX1_takes_1 hth rfl ?_
  refine kk_top v hv ?_
  exact kk_iret (pc := 4) hX dX1_takes_4 hr ⟨Nat.le_refl _, Nat.le_refl _⟩ (⟨rfl, rfl, rfl, rfl, rfl⟩)

theorem v_takes20 (G : jj_G) (τ : jj_T) (I : jj_I) (L : jj_L) (r : jj_R) (th : Nat) (hth : τ th = some (.inl 23)) (v : Int32) (hv : I th 0 = v) : kk_M G yX1_takes (ws_ yX1_takes cX1_takes 1 (some .int)) { frames := 0, cells := 0, slots := 0, locals := 0 } [jR (some th)] false τ I L r (jj_eq (some (jI v)) τ I L r) jj_no := by
  refine kk_intro "BranchCells$Doer" (by decide) rfl (Nat.le_of_ble_eq_true rfl) ?_
  intro X hG hX hr hN hC hF hAd
  refine kk_aload_n (pc := 0) hX dX1_takes_0 rfl ?_
  refine kk_getI (pc := 1) hX fl_X1_13_23 dX1_takes_1 hth rfl ?_
  refine kk_top v hv ?_
  exact kk_iret (pc := 4) hX dX1_takes_4 hr ⟨Nat.le_refl _, Nat.le_refl _⟩ (⟨rfl, rfl, rfl, rfl, rfl⟩)

theorem v_takes21 (G : jj_G) (τ : jj_T) (I : jj_I) (L : jj_L) (r : jj_R) (th : Nat) (hth : τ th = some (.inl 24)) (v : Int32) (hv : I th 0 = v) : kk_M G yX1_takes (ws_ yX1_takes cX1_takes 1 (some .int)) { frames := 0, cells := 0, slots := 0, locals := 0 } [jR (some th)] false τ I L r (jj_eq (some (jI v)) τ I L r) jj_no := by
  refine kk_intro "BranchCells$Doer" (by decide) rfl (Nat.le_of_ble_eq_true rfl) ?_
  intro X hG hX hr hN hC hF hAd
  refine kk_aload_n (pc := 0) hX dX1_takes_0 rfl ?_
  refine kk_getI (pc := 1) hX fl_X1_13_24 dX1_takes_1 hth rfl ?_
  refine kk_top v hv ?_
  exact kk_iret (pc := 4) hX dX1_takes_4 hr ⟨Nat.le_refl _, Nat.le_refl _⟩ (⟨rfl, rfl, rfl, rfl, rfl⟩)
