set_option maxRecDepth 100000
def bt (x : Int32) (i : Nat) : Bool := x.toBitVec.getLsbD i
theorem b_ext {x y : Int32} (h : ∀ i, i < 32 → bt x i = bt y i) : x = y := Int32.toBitVec_inj.mp (BitVec.eq_of_getLsbD_eq (fun i hi => h i hi))
theorem b_or (x y : Int32) (i : Nat) : bt (x ||| y) i = (bt x i || bt y i) := by unfold bt; rw [Int32.toBitVec_or, BitVec.getLsbD_or]
theorem b_and (x y : Int32) (i : Nat) : bt (x &&& y) i = (bt x i && bt y i) := by unfold bt; rw [Int32.toBitVec_and, BitVec.getLsbD_and]
theorem b_xor (x y : Int32) (i : Nat) : bt (x ^^^ y) i = (bt x i ^^ bt y i) := by unfold bt; rw [Int32.toBitVec_xor, BitVec.getLsbD_xor]
theorem b_big {x : Int32} {i : Nat} (h : 32 ≤ i) : bt x i = false := BitVec.getLsbD_of_ge _ _ h
theorem b_255 (i : Nat) : bt 255 i = decide (i < 8) := by
  rcases Nat.lt_or_ge i 32 with h | h
  · exact (by decide +kernel : ∀ i, i < 32 → bt 255 i = decide (i < 8)) i h
  · rw [b_big h, decide_eq_false (by omega)]
theorem b_65535 (i : Nat) : bt 65535 i = decide (i < 16) := by
  rcases Nat.lt_or_ge i 32 with h | h
  · exact (by decide +kernel : ∀ i, i < 32 → bt 65535 i = decide (i < 16)) i h
  · rw [b_big h, decide_eq_false (by omega)]
theorem b_m1 : ∀ i, i < 32 → bt (-1) i = true := by decide +kernel
theorem b_0 (i : Nat) : bt 0 i = false := BitVec.getLsbD_zero
theorem s_l : ∀ n, n < 32 → ((nI n &&& 31).toBitVec.smod 32).toNat = n := by decide +kernel
theorem s_u : ∀ n, n < 32 → (((nI n).toUInt32 &&& Int32.toUInt32 31).toBitVec % 32).toNat = n := by decide +kernel
theorem b_shl (n : Nat) (hn : n < 32) (x : Int32) {i : Nat} (hi : i < 32) : bt (x <<< (nI n &&& 31)) i = (decide (n ≤ i) && bt x (i - n)) := by
  unfold bt
  rw [Int32.toBitVec_shiftLeft]
  show (x.toBitVec <<< ((nI n &&& 31).toBitVec.smod 32).toNat).getLsbD i = _
  rw [s_l n hn, BitVec.getLsbD_shiftLeft]
  rcases Nat.lt_or_ge i n with h | h
  · simp [h, Nat.not_le.mpr h]
  · simp [hi, h, Nat.not_lt.mpr h]
theorem b_ushr (n : Nat) (hn : n < 32) (x : Int32) (i : Nat) : bt ((x.toUInt32 >>> ((nI n).toUInt32 &&& Int32.toUInt32 31)).toInt32) i = bt x (n + i) := by
  show (x.toUInt32 >>> ((nI n).toUInt32 &&& Int32.toUInt32 31)).toBitVec.getLsbD i = x.toUInt32.toBitVec.getLsbD (n + i)
  rw [UInt32.toBitVec_shiftRight]
  show (x.toUInt32.toBitVec >>> (((nI n).toUInt32 &&& Int32.toUInt32 31).toBitVec % 32).toNat).getLsbD i = _
  rw [s_u n hn, BitVec.getLsbD_ushiftRight]
theorem b_sshr (n : Nat) (hn : n < 32) (x : Int32) {i : Nat} (hi : i < 32) : bt (x >>> (nI n &&& 31)) i = if n + i < 32 then bt x (n + i) else bt x 31 := by
  unfold bt
  rw [Int32.toBitVec_shiftRight]
  show (x.toBitVec.sshiftRight ((nI n &&& 31).toBitVec.smod 32).toNat).getLsbD i = _
  rw [s_l n hn, BitVec.getLsbD_sshiftRight, BitVec.msb_eq_getLsbD_last]
  simp [hi]
theorem nx_and (a b : Nat) : nI a &&& nI b = nI (a &&& b) := by
  apply Int32.toBitVec_inj.1
  show BitVec.ofNat 32 a &&& BitVec.ofNat 32 b = BitVec.ofNat 32 (a &&& b)
  apply BitVec.eq_of_getLsbD_eq
  intro i hi
  simp [hi]
theorem nx_xor (a b : Nat) : nI a ^^^ nI b = nI (a ^^^ b) := by
  apply Int32.toBitVec_inj.1
  show BitVec.ofNat 32 a ^^^ BitVec.ofNat 32 b = BitVec.ofNat 32 (a ^^^ b)
  apply BitVec.eq_of_getLsbD_eq
  intro i hi
  simp [hi]
theorem nx_cnt : ∀ j : Fin 32, (UInt32.ofNat j.val &&& Int32.toUInt32 31).toNat % 32 = j.val := by decide +kernel
theorem nx_ush {k j : Nat} (hk : k < 65536) (hj : j < 32) : ((nI k).toUInt32 >>> ((nI j).toUInt32 &&& Int32.toUInt32 31)).toInt32 = nI (k >>> j) := by
  have hs : k >>> j ≤ k := by
    rw [Nat.shiftRight_eq_div_pow]
    exact Nat.div_le_self _ _
  have e2 : UInt32.ofNat k >>> (UInt32.ofNat j &&& Int32.toUInt32 31) = UInt32.ofNat (k >>> j) := by
    apply UInt32.toNat_inj.1
    have h1 : (UInt32.ofNat k).toNat = k := Nat.mod_eq_of_lt (by omega)
    have h2 : (UInt32.ofNat (k >>> j)).toNat = k >>> j := Nat.mod_eq_of_lt (by omega)
    rw [UInt32.toNat_shiftRight, nx_cnt ⟨j, hj⟩, h1, h2]
  show (UInt32.ofNat k >>> (UInt32.ofNat j &&& Int32.toUInt32 31)).toInt32 = _
  rw [e2]
  rfl
theorem nx_bit {k j : Nat} (hk : k < 65536) (hj : j < 16) : (((nI k).toUInt32 >>> ((nI j).toUInt32 &&& Int32.toUInt32 31)).toInt32 &&& 1) = 0 ↔ k.testBit j = false := by
  rw [nx_ush hk (by omega)]
  show nI (k >>> j) &&& nI 1 = 0 ↔ _
  rw [nx_and, Nat.and_one_is_mod, ← nI_0, nI_eq (by omega) (by omega), Nat.testBit_eq_decide_div_mod_eq, Nat.shiftRight_eq_div_pow, decide_eq_false_iff_not]
  generalize k / 2 ^ j = z
  omega
theorem jj_wf {own : String} {idx : Nat} {C : String} {x y : MethodName} (h1 : Cond.methodLink own idx x ∈ lw_all) (h2 : Cond.selects C x y ∈ lw_all) (h3 : Cond.instanceMethod y ∈ lw_all) (h4 : Cond.initialized y.cls ∈ lw_all) : ∀ w ∈ ([.methodLink own idx x, .selects C x y, .instanceMethod y, .initialized y.cls] : List Cond), w ∈ lw_all := by
  intro w hw
  simp only [List.mem_cons, List.not_mem_nil, or_false] at hw
  rcases hw with e | e | e | e
  · rw [e]; exact h1
  · rw [e]; exact h2
  · rw [e]; exact h3
  · rw [e]; exact h4
/-! contracts that throw -/
def jj_noP : jj_P := fun _ _ _ _ _ => False
def jj_th (q : Nat) (τ : jj_T) (I : jj_I) (L : jj_L) (r : jj_R) : jj_PX := fun a τ' I' L' r' => a = q ∧ τ' = τ ∧ I' = I ∧ L' = L ∧ r' = r
theorem jj_knp {Q : Option jj_v → jj_T → jj_I → jj_L → jj_R → Prop} : ∀ (v : Option jj_v) (τ : jj_T) (I : jj_I) (L : jj_L) (r : jj_R), jj_noP v τ I L r → Q v τ I L r := fun _ _ _ _ _ h => h.elim
theorem jj_kth {q : Nat} {τ : jj_T} {I : jj_I} {L : jj_L} {r : jj_R} {Q : Nat → jj_T → jj_I → jj_L → jj_R → Prop} (h : Q q τ I L r) : ∀ (a : Nat) (τ' : jj_T) (I' : jj_I) (L' : jj_L) (r' : jj_R), jj_th q τ I L r a τ' I' L' r' → Q a τ' I' L' r' := by
  rintro a τ' I' L' r' ⟨rfl, rfl, rfl, rfl, rfl⟩
  exact h
theorem jj_aastS {X : jj_X} {cc : ByteArray} {own : String} {nL fr lo mc ms : Nat} {Q : State → Prop} {k n pc : Nat} {ls : List (Nat × jj_v)} {st : List jj_v} {τ : jj_T} {I : jj_I} {L : jj_L} {r : jj_R} (hX : jj_ok X cc own nL fr lo mc ms) {a N : Nat} {i : Int32} {t ci v : Nat} {C : String} {T : u_T} {NN : Nat} (j : Nat) (hdg : decode cc pc = .ok (.aastore, 1)) (hτ : τ a = some (.inr (t, N))) (h3 : 3 ≤ t) (ht : jj_aty t = .object C) (hi : i = nI j) (hj : j < N ∧ j < 2147483648) (hv : τ v = some (.inl ci)) (hc : jj_cl[ci]? = some (C, T, NN)) (kk : jj_J X Q k n (pc + 1) ls st τ I L (jj_u r a j (some v))) : jj_J X Q k n pc ls (jR (some v) :: jI i :: jR (some a) :: st) τ I L r := by
  obtain ⟨⟨l, D, aC, ad, A, sa⟩, p, e, R, s, m, args, below, meth, c⟩ := X
  intro H locs la hl hV hS
  obtain ⟨hin, hcl⟩ := jj_vin hi hj
  obtain ⟨h6, hcell⟩ := hV.1 a _ hτ
  have hK := hX.2.2.2.2.2.1
  have h9 := (hK.2 t h6).2
  rw [ht] at h9
  obtain ⟨kA, comp, k1, k2, k3, -⟩ := h9
  obtain ⟨q, h1, cellV, g1, g2, g3, -⟩ := hV.1 v _ hv
  cases h1.symm.trans hc
  have hKn := hK.1 ci _ hc
  have hcomp : comp = D.1 ci := Option.some.inj (k3.symm.trans hKn.2.1)
  subst hcomp
  obtain ⟨kC, hkC, -⟩ := hKn.2.2
  have hak : jj_ak t = 2 := by
    match t, h3 with
    | 0, h => omega
    | 1, h => omega
    | 2, h => omega
    | t + 3, _ => rfl
  refine W.aast hX.1 hX.2.1 hcell (fun q h => by cases h) (fun h => by cases h) k1 k2 rfl hkC ⟨fun q => hin (Or.inl q), by rw [arrV_size, hcl]; exact hj.1⟩ g1 (fun q h => by rw [g3] at h; cases h) (by rw [g2]; exact hkC) (by rw [g2]; exact va_assign hKn.2) rfl rfl hdg fun H1 e1 z oq => ?_
  refine kk H1 _ la hl (hV.put (I' := I) (L' := L) (r' := jj_u r a j (some v)) hτ ⟨h6, ?_⟩ oq ?_ ?_ ?_) (hS.put z oq (hV.2.2 a _ hτ (fun z => by cases z; omega)))
  · rw [e1, arrV_store, hcl]
    congr 2
    funext q
    by_cases hq : q = j
    · subst hq
      simp [updV, jj_u, jj_fv, hak, va_rf]
    · simp [updV, jj_u, hq]
  · intro b hb; rfl
  · intro b hb; rfl
  · intro b hb; exact jj_ua hb
theorem kk_aastS {X : jj_X} {o : jj_T} {cc : ByteArray} {own : String} {nL fr lo mc ms : Nat} {Q : State → Prop} {k n pc : Nat} {ls : List (Nat × jj_v)} {st : List jj_v} {τ : jj_T} {I : jj_I} {L : jj_L} {r : jj_R} (hX : kk_ok X cc own nL fr lo mc ms) {a N : Nat} {i : Int32} {t ci v : Nat} {C : String} {T : u_T} {NN : Nat} (j : Nat) (hdg : decode cc pc = .ok (.aastore, 1)) (hτ : τ a = some (.inr (t, N))) (h3 : 3 ≤ t) (ht : jj_aty t = .object C) (hi : i = nI j) (hj : j < N ∧ j < 2147483648) (hv : τ v = some (.inl ci)) (hc : jj_cl[ci]? = some (C, T, NN)) (kk : kk_J X o Q k n (pc + 1) ls st τ I L (jj_u r a j (some v))) : kk_J X o Q k n pc ls (jR (some v) :: jI i :: jR (some a) :: st) τ I L r := by
  obtain ⟨⟨l, D, aC, ad0, A, sa⟩, p, e, R, s, m, args, below, meth, c⟩ := X
  intro ad ha9 hW hls hst
  exact jj_aastS (X := ((l, D, aC, ad, A, sa), p, e, R, s, m, args, below, meth, c)) hX.1 j hdg hτ h3 ht hi hj hv hc (kk  ad ha9 (hW.put hst.1) (hls) (hst.2.2.2))
theorem kk_aastO {X : jj_X} {o : jj_T} {cc : ByteArray} {own : String} {nL fr lo mc ms : Nat} {Q : State → Prop} {k n pc : Nat} {ls : List (Nat × jj_v)} {st : List jj_v} {τ : jj_T} {I : jj_I} {L : jj_L} {r : jj_R} (hX : kk_ok X cc own nL fr lo mc ms) {a N : Nat} {i : Int32} {t ci : Nat} {C : String} {T : u_T} {NN : Nat} {x : Option Nat} (j : Nat) (hdg : decode cc pc = .ok (.aastore, 1)) (hτ : τ a = some (.inr (t, N))) (h3 : 3 ≤ t) (ht : jj_aty t = .object C) (hi : i = nI j) (hj : j < N ∧ j < 2147483648) (hv : ∀ v, x = some v → τ v = some (.inl ci)) (hc : jj_cl[ci]? = some (C, T, NN)) (kk : kk_J X o Q k n (pc + 1) ls st τ I L (jj_u r a j x)) : kk_J X o Q k n pc ls (jR x :: jI i :: jR (some a) :: st) τ I L r := by
  cases x with
  | none => exact kk_aastN hX j hdg hτ h3 ht hi hj kk
  | some v => exact kk_aastS hX j hdg hτ h3 ht hi hj (hv v rfl) hc kk
theorem kk_mr {X : jj_X} {o : jj_T} {Q : State → Prop} {k n pc : Nat} {ls : List (Nat × jj_v)} {st : List jj_v} {τ : jj_T} {I : jj_I} {L : jj_L} {r r' : jj_R} (h : r' = r) (kk : kk_J X o Q k n pc ls st τ I L r') : kk_J X o Q k n pc ls st τ I L r := h ▸ kk
theorem jj_cp_i {r : jj_R} {e sp dp n j : Nat} : jj_cp r e e sp dp n e j = if dp ≤ j ∧ j < dp + n then r e (sp + (j - dp)) else r e j := by
  unfold jj_cp
  rw [if_pos rfl]
  rfl
theorem jj_cp0 {r : jj_R} {e sp dp n : Nat} (h : n = 0) : jj_cp r e e sp dp n = r := by
  funext b j
  by_cases hb : b = e
  · subst hb
    rw [jj_cp_i, if_neg (by omega)]
  · rw [jj_cpo hb]
theorem v_fastRemove (G : jj_G) (τ : jj_T) (I : jj_I) (L : jj_L) (r : jj_R) (th e N n i : Nat) (C : String) (hth : τ th = some (.inl 33)) (he : τ e = some (.inr (3, N))) (hnN : n ≤ N) (hN9 : N < 1000000) (hin : i < n) (hn : I th 2 = nI n) (hel : kk_el τ r e C) (hCs : Cond.castable C "java/lang/Object" ∈ jj_tw) (m0 : Int32) (hm0 : I th 0 = m0) : kk_M G yJ2_fastRemove (ws_ yJ2_fastRemove cJ2_fastRemove 4 none) { frames := 1, cells := 0, slots := 0, locals := 33 } [jR (some th), jR (some e), jI (nI i)] false τ I L r (jj_eq none τ (jj_u (jj_u I th 0 (m0 + 1)) th 2 (nI (n - 1))) L (jj_u (jj_cp r e e (i + 1) i (n - 1 - i)) e (n - 1) none)) jj_no := by
  refine kk_intro "java/util/ArrayList" (by decide) rfl (Nat.le_of_ble_eq_true rfl) ?_
  intro X hG hX hr hN hC hF hAd
  refine kk_aload_n (pc := 0) hX dJ2_fastRemove_0 rfl ?_
  refine kk_dup (pc := 1) hX dJ2_fastRemove_1 rfl ?_
  refine kk_getI (pc := 2) hX fl_J2_63_33 dJ2_fastRemove_2 hth rfl ?_
  refine kk_top m0 hm0 ?_
  refine kk_iconst (pc := 5) hX (v := 1) dJ2_fastRemove_5 (by decide) ?_
  refine kk_iadd (pc := 6) hX dJ2_fastRemove_6 ?_
  refine kk_putI (pc := 7) hX fl_J2_63_33 dJ2_fastRemove_7 hth rfl rfl ?_
  refine kk_aload_n (pc := 10) hX dJ2_fastRemove_10 rfl ?_
  refine kk_getI (pc := 11) hX fl_J2_48_33 dJ2_fastRemove_11 hth rfl ?_
  refine kk_top (nI n) (Eq.trans (jj_un (Or.inr (by decide))) hn) ?_
  refine kk_iconst (pc := 14) hX (v := 1) dJ2_fastRemove_14 (by decide) ?_
  refine kk_isub (pc := 15) hX dJ2_fastRemove_15 ?_
  refine kk_top (nI (n - 1)) (ix_sub rfl rfl (by omega)) ?_
  refine kk_dup (pc := 16) hX dJ2_fastRemove_16 rfl ?_
  refine kk_istore_n (pc := 17) hX dJ2_fastRemove_17 (by decide) ?_
  refine kk_iload_n (pc := 18) hX dJ2_fastRemove_18 rfl ?_
  refine kk_icmp_le (pc := 19) hX 34 dJ2_fastRemove_19 rfl (fun h19 => ?_) (fun h19 => ?_)
  · have h20 : n - 1 ≤ i := (nI_leI (by omega) (by omega)).mp h19
    refine kk_mr (jj_cp0 (r := r) (e := e) (sp := i + 1) (dp := i) (n := n - 1 - i) (by omega)) ?_
    refine kk_aload_n (pc := 34) hX dJ2_fastRemove_34 rfl ?_
    refine kk_aload_n (pc := 35) hX dJ2_fastRemove_35 rfl ?_
    refine kk_iload_n (pc := 36) hX dJ2_fastRemove_36 rfl ?_
    refine kk_dup_x1 (pc := 37) hX dJ2_fastRemove_37 rfl rfl ?_
    refine kk_putI (pc := 38) hX fl_J2_48_33 dJ2_fastRemove_38 hth rfl rfl ?_
    refine kk_null (pc := 41) hX dJ2_fastRemove_41 ?_
    refine kk_aastN (pc := 42) hX (n - 1) dJ2_fastRemove_42 he (by decide) rfl rfl ⟨by omega, by omega⟩ ?_
    exact kk_vret (pc := 43) hX dJ2_fastRemove_43 hr ⟨Nat.le_refl _, Nat.le_refl _⟩ (⟨rfl, rfl, rfl, rfl, rfl⟩)
  · refine kk_aload_n (pc := 22) hX dJ2_fastRemove_22 rfl ?_
    refine kk_iload_n (pc := 23) hX dJ2_fastRemove_23 rfl ?_
    refine kk_iconst (pc := 24) hX (v := 1) dJ2_fastRemove_24 (by decide) ?_
    refine kk_iadd (pc := 25) hX dJ2_fastRemove_25 ?_
    refine kk_top (nI (i + 1)) (ix_add rfl rfl) ?_
    refine kk_aload_n (pc := 26) hX dJ2_fastRemove_26 rfl ?_
    refine kk_iload_n (pc := 27) hX dJ2_fastRemove_27 rfl ?_
    refine kk_iload_n (pc := 28) hX dJ2_fastRemove_28 rfl ?_
    refine kk_iload_n (pc := 29) hX dJ2_fastRemove_29 rfl ?_
    refine kk_isub (pc := 30) hX dJ2_fastRemove_30 ?_
    refine kk_top (nI ((n - 1) - i)) (ix_sub rfl rfl (by omega)) ?_
    refine kk_copy (pc := 31) hX (i + 1) i (n - 1 - i) dJ2_fastRemove_31 ⟨q1371, q585, q584, q83⟩ he he rfl rfl rfl ⟨by omega, by omega, by omega, by omega, by omega⟩ (fun z _ y hy => hel (i + 1 + z) y hy) hCs ⟨Nat.le_of_ble_eq_true rfl, Nat.le_of_ble_eq_true rfl⟩ ?_
    refine kk_aload_n (pc := 34) hX dJ2_fastRemove_34 rfl ?_
    refine kk_aload_n (pc := 35) hX dJ2_fastRemove_35 rfl ?_
    refine kk_iload_n (pc := 36) hX dJ2_fastRemove_36 rfl ?_
    refine kk_dup_x1 (pc := 37) hX dJ2_fastRemove_37 rfl rfl ?_
    refine kk_putI (pc := 38) hX fl_J2_48_33 dJ2_fastRemove_38 hth rfl rfl ?_
    refine kk_null (pc := 41) hX dJ2_fastRemove_41 ?_
    refine kk_aastN (pc := 42) hX (n - 1) dJ2_fastRemove_42 he (by decide) rfl rfl ⟨by omega, by omega⟩ ?_
    exact kk_vret (pc := 43) hX dJ2_fastRemove_43 hr ⟨Nat.le_refl _, Nat.le_refl _⟩ (⟨rfl, rfl, rfl, rfl, rfl⟩)

theorem v_remove_l {X : jj_X} {o : jj_T} (hX : kk_ok X cJ2_remove "java/util/ArrayList" 5 2 56 0 0) {Q : State → Prop} {τ : jj_T} {I : jj_I} {L : jj_L} {r : jj_R} (th e N n i b : Nat) (he : τ e = some (.inr (3, N))) (hb : τ b = some (.inl 28)) (hin : i < n) (hnN : n ≤ N) (hN9 : N < 1000000) (hx : ∀ j, j ≤ i → kk_x (r e j)) (hbx : kk_x (some b)) (hi : r e i = some b) (hne : ∀ j, j < i → some b ≠ r e j) (K : kk_J X o Q 0 0 67 [(0, jR (some th)), (1, jR (some b)), (2, jR (some e)), (3, jI (nI n)), (4, jI (nI i))] [] τ I L r) : ∀ (f k : Nat), k + f = i → kk_J X o Q 0 0 39 [(0, jR (some th)), (1, jR (some b)), (2, jR (some e)), (3, jI (nI n)), (4, jI (nI k))] [] τ I L r := by
  intro f
  induction f with
  | zero =>
    intro k hk
    have e9 : k = i := by omega
    subst e9
    refine kk_iload (pc := 39) hX dJ2_remove_39 rfl ?_
    refine kk_iload_n (pc := 41) hX dJ2_remove_41 rfl ?_
    refine kk_icmp_ge (pc := 42) hX 65 dJ2_remove_42 rfl (fun q => absurd q (nI_ge (show k < n by omega) (by omega))) (fun _ => ?_)
    refine kk_aload_n (pc := 45) hX dJ2_remove_45 rfl ?_
    refine kk_aload_n (pc := 46) hX dJ2_remove_46 rfl ?_
    refine kk_iload (pc := 47) hX dJ2_remove_47 rfl ?_
    refine kk_aald (pc := 49) hX (x := (r e k)) k dJ2_remove_49 he (by decide) rfl ⟨by omega, by omega⟩ rfl ?_
    refine kk_callU (pc := 50) hX (owner := "java/lang/Object") (v_equals X.1 _ _ _ _ b (r e k) hbx (hx k (by omega))) dJ2_remove_50 (lw_meth q1366) ⟨q1329, q1331, q1359, q1330, q1806, jj_inT q1328 rfl⟩ ⟨by decide +kernel, by decide +kernel, by show _ = some (1 : Nat); decide +kernel⟩ ⟨Nat.le_of_ble_eq_true rfl, Nat.le_of_ble_eq_true rfl, Nat.le_of_ble_eq_true rfl, Nat.le_of_ble_eq_true rfl, Nat.le_of_ble_eq_true rfl⟩ (fun q => by cases q) hb jc_28 rfl (jj_keq ?_) jj_kno
    refine kk_top 1 (if_pos hi.symm) ?_
    refine kk_if_eq (pc := 53) hX 59 dJ2_remove_53 rfl (fun q => absurd q (by decide)) (fun _ => ?_)
    refine kk_goto (pc := 56) hX 67 dJ2_remove_56 rfl ?_
    exact K
  | succ f ih =>
    intro k hk
    refine kk_iload (pc := 39) hX dJ2_remove_39 rfl ?_
    refine kk_iload_n (pc := 41) hX dJ2_remove_41 rfl ?_
    refine kk_icmp_ge (pc := 42) hX 65 dJ2_remove_42 rfl (fun q => absurd q (nI_ge (show k < n by omega) (by omega))) (fun _ => ?_)
    refine kk_aload_n (pc := 45) hX dJ2_remove_45 rfl ?_
    refine kk_aload_n (pc := 46) hX dJ2_remove_46 rfl ?_
    refine kk_iload (pc := 47) hX dJ2_remove_47 rfl ?_
    refine kk_aald (pc := 49) hX (x := (r e k)) k dJ2_remove_49 he (by decide) rfl ⟨by omega, by omega⟩ rfl ?_
    refine kk_callU (pc := 50) hX (owner := "java/lang/Object") (v_equals X.1 _ _ _ _ b (r e k) hbx (hx k (by omega))) dJ2_remove_50 (lw_meth q1366) ⟨q1329, q1331, q1359, q1330, q1806, jj_inT q1328 rfl⟩ ⟨by decide +kernel, by decide +kernel, by show _ = some (1 : Nat); decide +kernel⟩ ⟨Nat.le_of_ble_eq_true rfl, Nat.le_of_ble_eq_true rfl, Nat.le_of_ble_eq_true rfl, Nat.le_of_ble_eq_true rfl, Nat.le_of_ble_eq_true rfl⟩ (fun q => by cases q) hb jc_28 rfl (jj_keq ?_) jj_kno
    refine kk_top 0 (if_neg (hne k (by omega))) ?_
    refine kk_if_eq (pc := 53) hX 59 dJ2_remove_53 rfl (fun _ => ?_) (fun q => absurd (by decide) q)
    refine kk_iinc (pc := 59) hX (v := nI (k + 1)) dJ2_remove_59 rfl (kx_inc rfl) (by decide) ?_
    refine kk_goto (pc := 62) hX 39 dJ2_remove_62 rfl ?_
    refine kk_lss [(0, jR (some th)), (1, jR (some b)), (2, jR (some e)), (3, jI (nI n)), (4, jI (nI (k + 1)))] ⟨rfl, rfl, rfl, rfl, rfl, trivial⟩ ?_
    exact ih (k + 1) (by omega)

theorem v_remove (G : jj_G) (τ : jj_T) (I : jj_I) (L : jj_L) (r : jj_R) (th e N n i b : Nat) (hth : τ th = some (.inl 33)) (he : τ e = some (.inr (3, N))) (hre : r th 1 = some e) (hn : I th 2 = nI n) (hb : τ b = some (.inl 28)) (hin : i < n) (hnN : n ≤ N) (hN9 : N < 1000000) (hx : ∀ j, j ≤ i → kk_x (r e j)) (hbx : kk_x (some b)) (hi : r e i = some b) (hne : ∀ j, j < i → some b ≠ r e j) (hel : kk_el τ r e "BranchCells$Segment") (hCs : Cond.castable "BranchCells$Segment" "java/lang/Object" ∈ jj_tw) (m0 : Int32) (hm0 : I th 0 = m0) : kk_M G yJ2_remove (ws_ yJ2_remove cJ2_remove 5 (some .boolean)) { frames := 2, cells := 0, slots := 0, locals := 56 } [jR (some th), jR (some b)] false τ I L r (jj_eq (some (jI 1)) τ (jj_u (jj_u I th 0 (m0 + 1)) th 2 (nI (n - 1))) L (jj_u (jj_cp r e e (i + 1) i (n - 1 - i)) e (n - 1) none)) jj_no := by
  refine kk_intro "java/util/ArrayList" (by decide) rfl (Nat.le_of_ble_eq_true rfl) ?_
  intro X hG hX hr hN hC hF hAd
  refine kk_aload_n (pc := 0) hX dJ2_remove_0 rfl ?_
  refine kk_getR (pc := 1) hX (x := some e) fl_J2_9_33 dJ2_remove_1 hth rfl hre ?_
  refine kk_astore_n (pc := 4) hX dJ2_remove_4 (by decide) ?_
  refine kk_aload_n (pc := 5) hX dJ2_remove_5 rfl ?_
  refine kk_getI (pc := 6) hX fl_J2_48_33 dJ2_remove_6 hth rfl ?_
  refine kk_top (nI n) hn ?_
  refine kk_istore_n (pc := 9) hX dJ2_remove_9 (by decide) ?_
  refine kk_iconst (pc := 10) hX (v := 0) dJ2_remove_10 (by decide) ?_
  refine kk_istore (pc := 11) hX dJ2_remove_11 (by decide) ?_
  refine kk_aload_n (pc := 13) hX dJ2_remove_13 rfl ?_
  refine kk_ifnonnull (pc := 14) hX 39 dJ2_remove_14 rfl (fun _ _ => ?_) (fun q => by cases q)
  refine kk_lss [(0, jR (some th)), (1, jR (some b)), (2, jR (some e)), (3, jI (nI n)), (4, jI (nI 0))] ⟨rfl, rfl, rfl, rfl, rfl, trivial⟩ ?_
  refine v_remove_l hX th e N n i b he hb hin hnN hN9 hx hbx hi hne ?_ i 0 (Nat.zero_add _)
  refine kk_aload_n (pc := 67) hX dJ2_remove_67 rfl ?_
  refine kk_aload_n (pc := 68) hX dJ2_remove_68 rfl ?_
  refine kk_iload (pc := 69) hX dJ2_remove_69 rfl ?_
  refine kk_callV (pc := 71) hX (v_fastRemove X.1 _ _ _ _ th e N n i "BranchCells$Segment" hth he hnN hN9 hin hn hel hCs m0 hm0) dJ2_remove_71 (lw_V q1367 q1369 qs22 q53 q1370) rfl ⟨by decide +kernel, by decide +kernel, by show _ = some (2 : Nat); decide +kernel⟩ ⟨Nat.le_of_ble_eq_true rfl, Nat.le_of_ble_eq_true rfl, Nat.le_of_ble_eq_true rfl, Nat.le_of_ble_eq_true rfl, Nat.le_of_ble_eq_true rfl⟩ (fun q => by cases q) hth jc_33 rfl (jj_keq ?_) jj_kno
  refine kk_iconst (pc := 74) hX (v := 1) dJ2_remove_74 (by decide) ?_
  exact kk_zret (pc := 75) hX dJ2_remove_75 hr ⟨Nat.le_refl _, Nat.le_refl _⟩ (by decide) (⟨rfl, rfl, rfl, rfl, rfl⟩)

def bc_N (k : Nat) : Nat :=
  let a := k - (k / 2 &&& 1431655765)
  let b := (a &&& 858993459) + (a / 4 &&& 858993459)
  let c := (b + b / 16) &&& 252645135
  let d := c + c / 256
  (d + d / 65536) &&& 63
def bc_p (k : Nat) : Nat → Nat
  | 0 => 0
  | n + 1 => bc_p k n + (k / 2 ^ n % 2)
noncomputable def bc_st (n : Nat) (f : Nat → Bool) : Bool := Nat.rec (f 0) (fun m _ => f (m + 1)) n
theorem bc_st_e (n : Nat) (f : Nat → Bool) : bc_st n f = f n := by cases n <;> rfl
def bc_q (k : Nat) : Nat := 0 + k / 1 % 2 + k / 2 % 2 + k / 4 % 2 + k / 8 % 2 + k / 16 % 2 + k / 32 % 2 + k / 64 % 2 + k / 128 % 2 + k / 256 % 2 + k / 512 % 2 + k / 1024 % 2 + k / 2048 % 2 + k / 4096 % 2 + k / 8192 % 2 + k / 16384 % 2 + k / 32768 % 2
theorem bc_pq (k : Nat) : bc_p k 16 = bc_q k := rfl
noncomputable def bc_t (k : Nat) : Bool := bc_st (k - (k / 2 &&& 1431655765)) fun a => bc_st ((a &&& 858993459) + (a / 4 &&& 858993459)) fun b => bc_st ((b + b / 16) &&& 252645135) fun c => bc_st (c + c / 256) fun d => Nat.beq ((d + d / 65536) &&& 63) (bc_q k)
theorem bc_t1 {k : Nat} (h : bc_t k = true) : bc_N k = bc_p k 16 := by
  unfold bc_t at h
  rw [bc_st_e, bc_st_e, bc_st_e, bc_st_e] at h
  rw [bc_pq]
  exact Nat.eq_of_beq_eq_true h
noncomputable def bc_c (h n : Nat) : Bool := Nat.rec true (fun m ih => and (bc_st (h + m) bc_t) ih) n
theorem bc_c1 {h : Nat} : ∀ {n : Nat}, bc_c h n = true → ∀ l, l < n → bc_N (h + l) = bc_p (h + l) 16 := by
  intro n
  induction n with
  | zero => intro _ l hl; exact absurd hl (Nat.not_lt_zero _)
  | succ n ih =>
    intro hc l hl
    have hc : and (bc_st (h + n) bc_t) (bc_c h n) = true := hc
    rw [bc_st_e] at hc
    have hc := (Bool.and_eq_true _ _).mp hc
    rcases Nat.lt_or_ge l n with q | q
    · exact ih hc.2 l q
    · rw [show l = n by omega]; exact bc_t1 hc.1
theorem bc_x0 : bc_c 0 4096 = true := by decide +kernel
theorem bc_x1 : bc_c 4096 4096 = true := by decide +kernel
theorem bc_x2 : bc_c 8192 4096 = true := by decide +kernel
theorem bc_x3 : bc_c 12288 4096 = true := by decide +kernel
theorem bc_x4 : bc_c 16384 4096 = true := by decide +kernel
theorem bc_x5 : bc_c 20480 4096 = true := by decide +kernel
theorem bc_x6 : bc_c 24576 4096 = true := by decide +kernel
theorem bc_x7 : bc_c 28672 4096 = true := by decide +kernel
theorem bc_x8 : bc_c 32768 4096 = true := by decide +kernel
theorem bc_x9 : bc_c 36864 4096 = true := by decide +kernel
theorem bc_x10 : bc_c 40960 4096 = true := by decide +kernel
theorem bc_x11 : bc_c 45056 4096 = true := by decide +kernel
theorem bc_x12 : bc_c 49152 4096 = true := by decide +kernel
theorem bc_x13 : bc_c 53248 4096 = true := by decide +kernel
theorem bc_x14 : bc_c 57344 4096 = true := by decide +kernel
theorem bc_x15 : bc_c 61440 4096 = true := by decide +kernel
theorem bc_eq {k : Nat} (hk : k < 65536) : bc_N k = bc_p k 16 := by
  have c : (0 ≤ k ∧ k < 4096) ∨ (4096 ≤ k ∧ k < 8192) ∨ (8192 ≤ k ∧ k < 12288) ∨ (12288 ≤ k ∧ k < 16384) ∨ (16384 ≤ k ∧ k < 20480) ∨ (20480 ≤ k ∧ k < 24576) ∨ (24576 ≤ k ∧ k < 28672) ∨ (28672 ≤ k ∧ k < 32768) ∨ (32768 ≤ k ∧ k < 36864) ∨ (36864 ≤ k ∧ k < 40960) ∨ (40960 ≤ k ∧ k < 45056) ∨ (45056 ≤ k ∧ k < 49152) ∨ (49152 ≤ k ∧ k < 53248) ∨ (53248 ≤ k ∧ k < 57344) ∨ (57344 ≤ k ∧ k < 61440) ∨ (61440 ≤ k ∧ k < 65536) := by omega
  rcases c with c | c | c | c | c | c | c | c | c | c | c | c | c | c | c | c
  · have h := bc_c1 bc_x0 (k - 0) (by omega)
    rw [show 0 + (k - 0) = k by omega] at h
    exact h
  · have h := bc_c1 bc_x1 (k - 4096) (by omega)
    rw [show 4096 + (k - 4096) = k by omega] at h
    exact h
  · have h := bc_c1 bc_x2 (k - 8192) (by omega)
    rw [show 8192 + (k - 8192) = k by omega] at h
    exact h
  · have h := bc_c1 bc_x3 (k - 12288) (by omega)
    rw [show 12288 + (k - 12288) = k by omega] at h
    exact h
  · have h := bc_c1 bc_x4 (k - 16384) (by omega)
    rw [show 16384 + (k - 16384) = k by omega] at h
    exact h
  · have h := bc_c1 bc_x5 (k - 20480) (by omega)
    rw [show 20480 + (k - 20480) = k by omega] at h
    exact h
  · have h := bc_c1 bc_x6 (k - 24576) (by omega)
    rw [show 24576 + (k - 24576) = k by omega] at h
    exact h
  · have h := bc_c1 bc_x7 (k - 28672) (by omega)
    rw [show 28672 + (k - 28672) = k by omega] at h
    exact h
  · have h := bc_c1 bc_x8 (k - 32768) (by omega)
    rw [show 32768 + (k - 32768) = k by omega] at h
    exact h
  · have h := bc_c1 bc_x9 (k - 36864) (by omega)
    rw [show 36864 + (k - 36864) = k by omega] at h
    exact h
  · have h := bc_c1 bc_x10 (k - 40960) (by omega)
    rw [show 40960 + (k - 40960) = k by omega] at h
    exact h
  · have h := bc_c1 bc_x11 (k - 45056) (by omega)
    rw [show 45056 + (k - 45056) = k by omega] at h
    exact h
  · have h := bc_c1 bc_x12 (k - 49152) (by omega)
    rw [show 49152 + (k - 49152) = k by omega] at h
    exact h
  · have h := bc_c1 bc_x13 (k - 53248) (by omega)
    rw [show 53248 + (k - 53248) = k by omega] at h
    exact h
  · have h := bc_c1 bc_x14 (k - 57344) (by omega)
    rw [show 57344 + (k - 57344) = k by omega] at h
    exact h
  · have h := bc_c1 bc_x15 (k - 61440) (by omega)
    rw [show 61440 + (k - 61440) = k by omega] at h
    exact h
theorem bc_sh {k j : Nat} (hk : k < 65536) (hj : j < 32) : ((nI k).toUInt32 >>> ((nI j).toUInt32 &&& Int32.toUInt32 31)).toInt32 = nI (k / 2 ^ j) := by
  rw [nx_ush hk hj, Nat.shiftRight_eq_div_pow]
theorem bc_sub {k m : Nat} : nI k - nI (k / 2 &&& m) = nI (k - (k / 2 &&& m)) := pk_sub (Nat.le_trans Nat.and_le_left (Nat.div_le_self _ _))
theorem v_bitC (G : jj_G) (τ : jj_T) (I : jj_I) (L : jj_L) (r : jj_R) (k a b c d : Nat) (ha : a = k - (k / 2 &&& 1431655765)) (hb : b = (a &&& 858993459) + (a / 4 &&& 858993459)) (hc : c = (b + b / 16) &&& 252645135) (hd : d = c + c / 256) (hk : k < 65536) (ha9 : a < 65536) (hb9 : b < 65536) (hc9 : c < 65536) (hd9 : d < 65536) : kk_M G yJ11_bitCount (ws_ yJ11_bitCount cJ11_bitCount 1 (some .int)) { frames := 0, cells := 0, slots := 0, locals := 0 } [jI (nI k)] false τ I L r (jj_eq (some (jI (nI ((d + d / 65536) &&& 63)))) τ I L r) jj_no := by
  refine kk_intro "java/lang/Integer" (by decide) rfl (Nat.le_of_ble_eq_true rfl) ?_
  intro X hG hX hr hN hC hF hAd
  refine kk_iload_n (pc := 0) hX dJ11_bitCount_0 rfl ?_
  refine kk_iload_n (pc := 1) hX dJ11_bitCount_1 rfl ?_
  refine kk_iconst (pc := 2) hX (v := 1) dJ11_bitCount_2 (by decide) ?_
  refine kk_iushr (pc := 3) hX dJ11_bitCount_3 rfl ?_
  refine kk_top (nI (k / 2)) (bc_sh (j := 1) hk (by decide)) ?_
  refine kk_ldcw (pc := 4) hX (v := 1431655765) q1311 dJ11_bitCount_4 ?_
  refine kk_iand (pc := 7) hX dJ11_bitCount_7 ?_
  refine kk_top (nI (k / 2 &&& 1431655765)) (nx_and (k / 2) 1431655765) ?_
  refine kk_isub (pc := 8) hX dJ11_bitCount_8 ?_
  refine kk_top (nI a) (bc_sub.trans (congrArg nI ha.symm)) ?_
  refine kk_istore_n (pc := 9) hX dJ11_bitCount_9 (by decide) ?_
  refine kk_iload_n (pc := 10) hX dJ11_bitCount_10 rfl ?_
  refine kk_ldcw (pc := 11) hX (v := 858993459) q1312 dJ11_bitCount_11 ?_
  refine kk_iand (pc := 14) hX dJ11_bitCount_14 ?_
  refine kk_top (nI (a &&& 858993459)) (nx_and a 858993459) ?_
  refine kk_iload_n (pc := 15) hX dJ11_bitCount_15 rfl ?_
  refine kk_iconst (pc := 16) hX (v := 2) dJ11_bitCount_16 (by decide) ?_
  refine kk_iushr (pc := 17) hX dJ11_bitCount_17 rfl ?_
  refine kk_top (nI (a / 4)) (bc_sh (j := 2) ha9 (by decide)) ?_
  refine kk_ldcw (pc := 18) hX (v := 858993459) q1312 dJ11_bitCount_18 ?_
  refine kk_iand (pc := 21) hX dJ11_bitCount_21 ?_
  refine kk_top (nI (a / 4 &&& 858993459)) (nx_and (a / 4) 858993459) ?_
  refine kk_iadd (pc := 22) hX dJ11_bitCount_22 ?_
  refine kk_top (nI b) ((nI_add _ _).trans (congrArg nI hb.symm)) ?_
  refine kk_istore_n (pc := 23) hX dJ11_bitCount_23 (by decide) ?_
  refine kk_iload_n (pc := 24) hX dJ11_bitCount_24 rfl ?_
  refine kk_iload_n (pc := 25) hX dJ11_bitCount_25 rfl ?_
  refine kk_iconst (pc := 26) hX (v := 4) dJ11_bitCount_26 (by decide) ?_
  refine kk_iushr (pc := 27) hX dJ11_bitCount_27 rfl ?_
  refine kk_top (nI (b / 16)) (bc_sh (j := 4) hb9 (by decide)) ?_
  refine kk_iadd (pc := 28) hX dJ11_bitCount_28 ?_
  refine kk_top (nI (b + b / 16)) (nI_add _ _) ?_
  refine kk_ldcw (pc := 29) hX (v := 252645135) q1313 dJ11_bitCount_29 ?_
  refine kk_iand (pc := 32) hX dJ11_bitCount_32 ?_
  refine kk_top (nI c) ((nx_and (b + b / 16) 252645135).trans (congrArg nI hc.symm)) ?_
  refine kk_istore_n (pc := 33) hX dJ11_bitCount_33 (by decide) ?_
  refine kk_iload_n (pc := 34) hX dJ11_bitCount_34 rfl ?_
  refine kk_iload_n (pc := 35) hX dJ11_bitCount_35 rfl ?_
  refine kk_bipush (pc := 36) hX (v := 8) dJ11_bitCount_36 (by decide) ?_
  refine kk_iushr (pc := 38) hX dJ11_bitCount_38 rfl ?_
  refine kk_top (nI (c / 256)) (bc_sh (j := 8) hc9 (by decide)) ?_
  refine kk_iadd (pc := 39) hX dJ11_bitCount_39 ?_
  refine kk_top (nI d) ((nI_add _ _).trans (congrArg nI hd.symm)) ?_
  refine kk_istore_n (pc := 40) hX dJ11_bitCount_40 (by decide) ?_
  refine kk_iload_n (pc := 41) hX dJ11_bitCount_41 rfl ?_
  refine kk_iload_n (pc := 42) hX dJ11_bitCount_42 rfl ?_
  refine kk_bipush (pc := 43) hX (v := 16) dJ11_bitCount_43 (by decide) ?_
  refine kk_iushr (pc := 45) hX dJ11_bitCount_45 rfl ?_
  refine kk_top (nI (d / 65536)) (bc_sh (j := 16) hd9 (by decide)) ?_
  refine kk_iadd (pc := 46) hX dJ11_bitCount_46 ?_
  refine kk_top (nI (d + d / 65536)) (nI_add _ _) ?_
  refine kk_istore_n (pc := 47) hX dJ11_bitCount_47 (by decide) ?_
  refine kk_iload_n (pc := 48) hX dJ11_bitCount_48 rfl ?_
  refine kk_bipush (pc := 49) hX (v := 63) dJ11_bitCount_49 (by decide) ?_
  refine kk_iand (pc := 51) hX dJ11_bitCount_51 ?_
  refine kk_top (nI ((d + d / 65536) &&& 63)) (nx_and (d + d / 65536) 63) ?_
  exact kk_iret (pc := 52) hX dJ11_bitCount_52 hr ⟨Nat.le_refl _, Nat.le_refl _⟩ (⟨rfl, rfl, rfl, rfl, rfl⟩)

theorem v_bitCount (G : jj_G) (τ : jj_T) (I : jj_I) (L : jj_L) (r : jj_R) (k : Nat) (hk : k < 65536) : kk_M G yJ11_bitCount (ws_ yJ11_bitCount cJ11_bitCount 1 (some .int)) { frames := 0, cells := 0, slots := 0, locals := 0 } [jI (nI k)] false τ I L r (jj_eq (some (jI (nI (bc_p k 16)))) τ I L r) jj_no := by
  have h1 : k - (k / 2 &&& 1431655765) < 65536 := by omega
  have hl : ∀ x m : Nat, x &&& m ≤ m := fun x m => Nat.and_le_right
  generalize ha : k - (k / 2 &&& 1431655765) = a at h1
  have h2 : (a &&& 858993459) + (a / 4 &&& 858993459) < 65536 := by
    have q1 : a &&& 858993459 ≤ 13107 := by
      rw [show a &&& 858993459 = (a &&& 65535) &&& 858993459 by rw [show 65535 = 2 ^ 16 - 1 from rfl, Nat.and_two_pow_sub_one_eq_mod, Nat.mod_eq_of_lt h1], Nat.and_assoc]
      exact Nat.and_le_right
    have q2 : a / 4 &&& 858993459 ≤ 13107 := by
      rw [show a / 4 &&& 858993459 = (a / 4 &&& 65535) &&& 858993459 by rw [show 65535 = 2 ^ 16 - 1 from rfl, Nat.and_two_pow_sub_one_eq_mod, Nat.mod_eq_of_lt (by omega)], Nat.and_assoc]
      exact Nat.and_le_right
    omega
  generalize hb : (a &&& 858993459) + (a / 4 &&& 858993459) = b at h2
  have h3 : (b + b / 16) &&& 252645135 < 4112 := by
    have q0 : b ≤ 26214 := by
      rw [← hb]
      have q1 : a &&& 858993459 ≤ 13107 := by
        rw [show a &&& 858993459 = (a &&& 65535) &&& 858993459 by rw [show 65535 = 2 ^ 16 - 1 from rfl, Nat.and_two_pow_sub_one_eq_mod, Nat.mod_eq_of_lt h1], Nat.and_assoc]
        exact Nat.and_le_right
      have q2 : a / 4 &&& 858993459 ≤ 13107 := by
        rw [show a / 4 &&& 858993459 = (a / 4 &&& 65535) &&& 858993459 by rw [show 65535 = 2 ^ 16 - 1 from rfl, Nat.and_two_pow_sub_one_eq_mod, Nat.mod_eq_of_lt (by omega)], Nat.and_assoc]
        exact Nat.and_le_right
      omega
    rw [show (b + b / 16) &&& 252645135 = ((b + b / 16) &&& 65535) &&& 252645135 by rw [show 65535 = 2 ^ 16 - 1 from rfl, Nat.and_two_pow_sub_one_eq_mod, Nat.mod_eq_of_lt (by omega)], Nat.and_assoc]
    exact Nat.lt_of_le_of_lt Nat.and_le_right (by decide)
  generalize hc : (b + b / 16) &&& 252645135 = c at h3
  have e : (c + c / 256 + (c + c / 256) / 65536) &&& 63 = bc_p k 16 := by
    rw [← bc_eq hk, ← hc, ← hb, ← ha]
    rfl
  have h := v_bitC G τ I L r k a b c (c + c / 256) ha.symm hb.symm hc.symm rfl hk h1 h2 (by omega) (by omega)
  rw [e] at h
  exact h