set_option maxRecDepth 100000

theorem jj_at.lt {D : va_G} {aC : Nat → ClassId} {ad : Nat → Nat} {I : jj_I} {L : jj_L} {r : jj_R} {a : Nat} {t : Nat ⊕ (Nat × Nat)} {H : Heap} (h : jj_at D aC ad I L r a t H) : ad a < H.size := by
  cases t with
  | inl ci =>
    obtain ⟨q, -, cell, h2, -⟩ := h
    exact (Array.getElem?_eq_some_iff.mp h2).1
  | inr tn => exact (Array.getElem?_eq_some_iff.mp h.2).1
theorem jj_V.fresh {D : va_G} {aC : Nat → ClassId} {A : Nat → Prop} {τ : jj_T} {I : jj_I} {L : jj_L} {r : jj_R} {H : Heap} (hV : jj_V D aC (fun a => a) A τ I L r H) {q : Nat} (h : H.size ≤ q) : τ q = none := by
  cases hq : τ q with
  | none => rfl
  | some t =>
    have := (hV.1 q t hq).lt
    omega
theorem jj_V.new {D : va_G} {aC : Nat → ClassId} {A : Nat → Prop} {τ : jj_T} {I : jj_I} {L : jj_L} {r : jj_R} {H H1 : Heap} (hV : jj_V D aC (fun a => a) A τ I L r H) {t : Nat ⊕ (Nat × Nat)} (hA : A H.size) (o1 : ∀ q, q < H.size → H1[q]? = H[q]?) (hat : jj_at D aC (fun a => a) (jj_z I H.size 0) (jj_z L H.size 0) (jj_z r H.size none) H.size t H1) :
    jj_V D aC (fun a => a) A (jj_t τ H.size t) (jj_z I H.size 0) (jj_z L H.size 0) (jj_z r H.size none) H1 := by
  refine ⟨fun b tb hb => ?_, fun a b _ _ h => h, fun a ta hta hne => ?_⟩
  · by_cases hq : b = H.size
    · subst hq
      rw [jj_ts] at hb
      cases hb
      exact hat
    · rw [jj_tn hq] at hb
      have h := hV.1 b tb hb
      have hlt : b < H.size := h.lt
      have h2 := o1 b hlt
      cases tb with
      | inl ci =>
        obtain ⟨q, h3, h4⟩ := h
        refine ⟨q, h3, ?_⟩
        rw [jj_zn hq, jj_zn hq, jj_zn hq]
        exact h4.kept h2
      | inr tn =>
        obtain ⟨h3, h4⟩ := h
        refine ⟨h3, ?_⟩
        rw [jj_zn hq, jj_zn hq, jj_zn hq]
        exact h2.trans h4
  · by_cases hq : a = H.size
    · rw [hq]; exact hA
    · rw [jj_tn hq] at hta
      exact hV.2.2 a ta hta hne
theorem jj_Snew {A : Nat → Prop} {H0 H H1 : Heap} {locs : List Loc} (hS : va_S A H0 H locs) (z : H1.size = H.size + 1) (o1 : ∀ q, q < H.size → H1[q]? = H[q]?) : va_S A H0 H1 locs :=
  ⟨Nat.le_trans hS.1 (by omega), fun x h1 h2 => (o1 x (Nat.lt_of_lt_of_le h1 hS.1)).trans (hS.2.1 x h1 h2), hS.2.2⟩
theorem jj_def {t : FieldType} (h : jj_kd t ≤ 2) : defaultValue t = jj_fv (jj_kd t) (fun a => a) 0 0 none := by
  cases t <;> simp only [jj_kd] at h ⊢ <;> first | rfl | (exfalso; omega)
section JC
variable {X : jj_X} {cc : ByteArray} {own : String} {nL fr lo mc ms : Nat} {Q : State → Prop} {k n pc : Nat} {ls : List (Nat × jj_v)} {st : List jj_v} {τ : jj_T} {I : jj_I} {L : jj_L} {r : jj_R}

theorem jj_new (hX : jj_ok X cc own nL fr lo mc ms) {idx ci Ni : Nat} {C : String} {T : u_T} {N : Nat} (hI : jj_Id X) (hF : jj_Fr X) (hdg : decode cc pc = .ok (.new idx, 3)) (hc : jj_cl[ci]? = some (C, T, N)) (h1 : Cond.classLink own idx C ∈ lw_all) (h2 : Cond.instantiable C Ni ∈ lw_all) (h3 : Cond.initialized C ∈ lw_all) (hd : ∀ j, j < N → jj_kd (jj_ty ci j) ≤ 2) (hr : k + 1 ≤ mc ∧ n + Ni ≤ ms) (kk : ∀ q, τ q = none → jj_J X Q (k + 1) (n + Ni) (pc + 3) ls (jR (some q) :: st) (jj_t τ q (.inl ci)) (jj_z I q 0) (jj_z L q 0) (jj_z r q none)) : jj_J X Q k n pc ls st τ I L r := by
  obtain ⟨⟨l, D, aC, ad, A, sa⟩, p, e, R, s, m, args, below, meth, c⟩ := X
  cases hI
  intro H locs la hl hV hS
  have hX' := hX
  obtain ⟨hx, hb, -, hown, hts, hK, -, -, -, -, -, -, hRc, hRs⟩ := hX'
  have hKn := hK.1 ci _ hc
  refine W.newcK hx hb hown (hts _ h1) (hts _ h2) (hts _ h3) rfl hdg (by rw [hRc]; exact hr.1) (by rw [hRs]; exact hr.2) hKn.2.1 rfl fun H1 kC hkC e1 z1 o1 => ?_
  refine kk H.size (hV.fresh (Nat.le_refl _)) H1 locs la hl (hV.new (hF _ hS.1) o1 ?_) (jj_Snew hS z1 o1)
  refine ⟨_, hc, (u_born (jj_ty ci) hts (jj_in ci _ hc) hKn hkC e1 (jj_tok ci _ hc)).to fun j hj => ?_⟩
  rw [jj_zs, jj_zs, jj_zs]
  exact jj_def (hd j hj)
theorem jj_newa (hX : jj_ok X cc own nL fr lo mc ms) {at9 : ArrayType} (t j : Nat) {i : Int32} (hI : jj_Id X) (hF : jj_Fr X) (hdg : decode cc pc = .ok (.newarray at9, 2)) (ht : newarray.typeOf at9 = jj_aty t) (h3 : t < 3) (hw : Cond.arrayClass (jj_aty t) ∈ lw_all) (hi : i = nI j) (hj : j < 1000000) (hr : k + 1 ≤ mc ∧ n + j ≤ ms) (kk : ∀ q, τ q = none → jj_J X Q (k + 1) (n + j) (pc + 2) ls (jR (some q) :: st) (jj_t τ q (.inr (t, j))) (jj_z I q 0) (jj_z L q 0) (jj_z r q none)) : jj_J X Q k n pc ls (jI i :: st) τ I L r := by
  obtain ⟨⟨l, D, aC, ad, A, sa⟩, p, e, R, s, m, args, below, meth, c⟩ := X
  cases hI
  intro H locs la hl hV hS
  have hX' := hX
  obtain ⟨hx, hb, -, hown, hts, hK, -, -, -, -, -, -, hRc, hRs⟩ := hX'
  have hcl : i.toNatClampNeg = j := by rw [hi]; exact nI_clamp (by omega)
  have h0 : ¬ i < 0 := by rw [hi]; exact nI_pos (by omega)
  have hbt : j * componentBytes (newarray.typeOf at9) ≤ 536870912 := by
    have : componentBytes (newarray.typeOf at9) ≤ 8 := by cases at9 <;> decide
    calc j * componentBytes (newarray.typeOf at9) ≤ 1000000 * 8 := Nat.mul_le_mul (by omega) this
      _ ≤ 536870912 := by decide
  refine va_newaK hx hb (by rw [ht]; exact hts _ hw) rfl hdg rfl h0 hcl hbt (by rw [hRc]; exact hr.1) (by rw [hRs]; exact hr.2) rfl fun H1 cA e1 z1 o1 hAr hNm => ?_
  rw [ht] at e1 hNm
  refine kk H.size (hV.fresh (Nat.le_refl _)) H1 locs la hl (hV.new (hF _ hS.1) o1 ?_) (jj_Snew hS z1 o1)
  have hcA : cA = aC t := by
    have h9 := (hK.2 t (by omega)).2
    match t, h3, h9, hNm with
    | 0, _, h9, hNm => exact Option.some.inj (hNm.symm.trans h9)
    | 1, _, h9, hNm => exact Option.some.inj (hNm.symm.trans h9)
    | 2, _, h9, hNm => exact Option.some.inj (hNm.symm.trans h9)
  refine ⟨by show t < 6; omega, ?_⟩
  show H1[H.size]? = _
  rw [e1, hcA]
  congr 2
  funext j
  rw [jj_zs, jj_zs, jj_zs]
  match t, h3 with
  | 0, _ => rfl
  | 1, _ => rfl
  | 2, _ => rfl
theorem jj_newq (hX : jj_ok X cc own nL fr lo mc ms) {idx : Nat} {E : String} (t j : Nat) {i : Int32} (hI : jj_Id X) (hF : jj_Fr X) (hdg : decode cc pc = .ok (.anewarray idx, 3)) (ht : jj_aty t = .object E) (h3 : 3 ≤ t ∧ t < 6) (hw : Cond.classLink own idx E ∈ lw_all) (ho : Cond.arrayOver (.object E) ∈ jj_tw) (hi : i = nI j) (hj : j < 1000000) (hr : k + 1 ≤ mc ∧ n + j ≤ ms) (kk : ∀ q, τ q = none → jj_J X Q (k + 1) (n + j) (pc + 3) ls (jR (some q) :: st) (jj_t τ q (.inr (t, j))) (jj_z I q 0) (jj_z L q 0) (jj_z r q none)) : jj_J X Q k n pc ls (jI i :: st) τ I L r := by
  obtain ⟨⟨l, D, aC, ad, A, sa⟩, p, e, R, s, m, args, below, meth, c⟩ := X
  cases hI
  intro H locs la hl hV hS
  have hX' := hX
  obtain ⟨hx, hb, -, hown, hts, hK, hTw, -, -, -, -, -, hRc, hRs⟩ := hX'
  have hcl : i.toNatClampNeg = j := by rw [hi]; exact nI_clamp (by omega)
  have h0 : ¬ i < 0 := by rw [hi]; exact nI_pos (by omega)
  refine W.anew hx hb hown (hts _ hw) (va_AO.use (hTw _ ho)) rfl hdg rfl h0 (by omega) (by rw [hRc]; exact hr.1) (by rw [hRs, hcl]; exact hr.2) fun cA kA comp f1 f2 f3 f4 => ?_
  rw [hcl]
  generalize hH1 : H.push ({ cls := cA, slots := Array.replicate j .null, vm := .none } : Cell) = H1
  have z1 : H1.size = H.size + 1 := by rw [← hH1, Array.size_push]
  have e1 : H1[H.size]? = some (arrV cA j (fun _ => .null)) := by rw [← hH1, Array.getElem?_push_size, ← arrV_new]
  have o1 : ∀ q : Nat, q < H.size → H1[q]? = H[q]? := fun q hq => by rw [← hH1, Array.getElem?_push, if_neg (Nat.ne_of_lt hq)]
  refine kk H.size (hV.fresh (Nat.le_refl _)) H1 locs la hl (hV.new (hF _ hS.1) o1 ?_) (jj_Snew hS z1 o1)
  have hcA : cA = aC t := by
    have h9 := (hK.2 t h3.2).2
    rw [ht] at h9
    obtain ⟨-, -, -, -, -, h9⟩ := h9
    exact Option.some.inj (f1.symm.trans h9)
  refine ⟨h3.2, ?_⟩
  show H1[H.size]? = _
  rw [e1, hcA]
  congr 2
  funext j
  rw [jj_zs, jj_zs, jj_zs]
  match t, h3 with
  | 0, h => omega
  | 1, h => omega
  | 2, h => omega
  | t + 3, _ => rfl
theorem jj_cast (hX : jj_ok X cc own nL fr lo mc ms) {idx ci a : Nat} {C : String} {T : u_T} {N : Nat} (hdg : decode cc pc = .ok (.checkcast idx, 3)) (hc : jj_cl[ci]? = some (C, T, N)) (hτ : τ a = some (.inl ci)) (hw : Cond.classLink own idx C ∈ lw_all) (kk : jj_J X Q k n (pc + 3) ls (jR (some a) :: st) τ I L r) : jj_J X Q k n pc ls (jR (some a) :: st) τ I L r := by
  obtain ⟨⟨l, D, aC, ad, A, sa⟩, p, e, R, s, m, args, below, meth, c⟩ := X
  intro H locs la hl hV hS
  obtain ⟨q, h1, cell, q1, q2, q3, q4⟩ := hV.1 a _ hτ
  cases h1.symm.trans hc
  have hKn := hX.2.2.2.2.2.1.1 ci _ hc
  exact va_castS hX.1 hX.2.1 hX.2.2.2.1 (hX.2.2.2.2.1 _ hw) hKn.2 ⟨cell, q1, by rw [q3]; rfl, by rw [q2]; exact hKn.2.1⟩ hdg (kk H locs la hl hV hS)
theorem jj_castN (hX : jj_ok X cc own nL fr lo mc ms) {idx : Nat} (hdg : decode cc pc = .ok (.checkcast idx, 3)) (kk : jj_J X Q k n (pc + 3) ls (jR none :: st) τ I L r) : jj_J X Q k n pc ls (jR none :: st) τ I L r := by
  obtain ⟨⟨l, D, aC, ad, A, sa⟩, p, e, R, s, m, args, below, meth, c⟩ := X
  intro H locs la hl hV hS
  exact lv_castN hX.1 hX.2.1 hdg (kk H locs la hl hV hS)
theorem jj_gets0 (hX : jj_ok X cc own nL fr lo mc ms) {idx : Nat} (v : Nat) (hI : X.1.2.2.2.1 v = X.1.2.2.2.2.2 0) (hdg : decode cc pc = .ok (.getstatic idx, 3)) (hw : Cond.fieldLink own idx "java/util/ArrayList" "DEFAULTCAPACITY_EMPTY_ELEMENTDATA" "[Ljava/lang/Object;" ∈ lw_all) (kk : jj_J X Q k n (pc + 3) ls (jR (some v) :: st) τ I L r) : jj_J X Q k n pc ls st τ I L r := by
  obtain ⟨⟨l, D, aC, ad, A, sa⟩, p, e, R, s, m, args, below, meth, c⟩ := X
  intro H locs la hl hV hS
  have hI : ad v = sa 0 := hI
  refine va_gets hX.1 hX.2.1 (hX.2.2.2.2.2.2.2.2.1.1) hS hX.2.2.2.1 (hX.2.2.2.2.1 _ hw) (fun _ h => h) hdg ?_
  rw [← hI]
  exact kk H locs la hl hV hS
theorem jj_gets1 (hX : jj_ok X cc own nL fr lo mc ms) {idx : Nat} (v : Nat) (hI : X.1.2.2.2.1 v = X.1.2.2.2.2.2 1) (hdg : decode cc pc = .ok (.getstatic idx, 3)) (hw : Cond.fieldLink own idx "BranchCells$State" "RUNS" "LBranchCells$State;" ∈ lw_all) (kk : jj_J X Q k n (pc + 3) ls (jR (some v) :: st) τ I L r) : jj_J X Q k n pc ls st τ I L r := by
  obtain ⟨⟨l, D, aC, ad, A, sa⟩, p, e, R, s, m, args, below, meth, c⟩ := X
  intro H locs la hl hV hS
  have hI : ad v = sa 1 := hI
  refine va_gets hX.1 hX.2.1 (hX.2.2.2.2.2.2.2.2.1.2.1) hS hX.2.2.2.1 (hX.2.2.2.2.1 _ hw) (fun _ h => h) hdg ?_
  rw [← hI]
  exact kk H locs la hl hV hS
theorem jj_gets2 (hX : jj_ok X cc own nL fr lo mc ms) {idx : Nat} (v : Nat) (hI : X.1.2.2.2.1 v = X.1.2.2.2.2.2 2) (hdg : decode cc pc = .ok (.getstatic idx, 3)) (hw : Cond.fieldLink own idx "BranchCells$State" "ENDED" "LBranchCells$State;" ∈ lw_all) (kk : jj_J X Q k n (pc + 3) ls (jR (some v) :: st) τ I L r) : jj_J X Q k n pc ls st τ I L r := by
  obtain ⟨⟨l, D, aC, ad, A, sa⟩, p, e, R, s, m, args, below, meth, c⟩ := X
  intro H locs la hl hV hS
  have hI : ad v = sa 2 := hI
  refine va_gets hX.1 hX.2.1 (hX.2.2.2.2.2.2.2.2.1.2.2.1) hS hX.2.2.2.1 (hX.2.2.2.2.1 _ hw) (fun _ h => h) hdg ?_
  rw [← hI]
  exact kk H locs la hl hV hS
theorem jj_gets3 (hX : jj_ok X cc own nL fr lo mc ms) {idx : Nat} (v : Nat) (hI : X.1.2.2.2.1 v = X.1.2.2.2.2.2 3) (hdg : decode cc pc = .ok (.getstatic idx, 3)) (hw : Cond.fieldLink own idx "BranchCells$State" "FAILED" "LBranchCells$State;" ∈ lw_all) (kk : jj_J X Q k n (pc + 3) ls (jR (some v) :: st) τ I L r) : jj_J X Q k n pc ls st τ I L r := by
  obtain ⟨⟨l, D, aC, ad, A, sa⟩, p, e, R, s, m, args, below, meth, c⟩ := X
  intro H locs la hl hV hS
  have hI : ad v = sa 3 := hI
  refine va_gets hX.1 hX.2.1 (hX.2.2.2.2.2.2.2.2.1.2.2.2.1) hS hX.2.2.2.1 (hX.2.2.2.2.1 _ hw) (fun _ h => h) hdg ?_
  rw [← hI]
  exact kk H locs la hl hV hS
theorem jj_gets4 (hX : jj_ok X cc own nL fr lo mc ms) {idx : Nat} (v : Nat) (hI : X.1.2.2.2.1 v = X.1.2.2.2.2.2 5) (hdg : decode cc pc = .ok (.getstatic idx, 3)) (hw : Cond.fieldLink own idx "java/lang/Throwable" "UNASSIGNED_STACK" "[Ljava/lang/StackTraceElement;" ∈ lw_all) (kk : jj_J X Q k n (pc + 3) ls (jR (some v) :: st) τ I L r) : jj_J X Q k n pc ls st τ I L r := by
  obtain ⟨⟨l, D, aC, ad, A, sa⟩, p, e, R, s, m, args, below, meth, c⟩ := X
  intro H locs la hl hV hS
  have hI : ad v = sa 5 := hI
  refine va_gets hX.1 hX.2.1 (hX.2.2.2.2.2.2.2.2.1.2.2.2.2.1) hS hX.2.2.2.1 (hX.2.2.2.2.1 _ hw) (fun _ h => h) hdg ?_
  rw [← hI]
  exact kk H locs la hl hV hS
theorem jj_gets5 (hX : jj_ok X cc own nL fr lo mc ms) {idx : Nat} (v : Nat) (hI : X.1.2.2.2.1 v = X.1.2.2.2.2.2 6) (hdg : decode cc pc = .ok (.getstatic idx, 3)) (hw : Cond.fieldLink own idx "java/lang/Throwable" "SUPPRESSED_SENTINEL" "Ljava/util/List;" ∈ lw_all) (kk : jj_J X Q k n (pc + 3) ls (jR (some v) :: st) τ I L r) : jj_J X Q k n pc ls st τ I L r := by
  obtain ⟨⟨l, D, aC, ad, A, sa⟩, p, e, R, s, m, args, below, meth, c⟩ := X
  intro H locs la hl hV hS
  have hI : ad v = sa 6 := hI
  refine va_gets hX.1 hX.2.1 (hX.2.2.2.2.2.2.2.2.1.2.2.2.2.2.1) hS hX.2.2.2.1 (hX.2.2.2.2.1 _ hw) (fun _ h => h) hdg ?_
  rw [← hI]
  exact kk H locs la hl hV hS
theorem jj_aast (hX : jj_ok X cc own nL fr lo mc ms) {a N : Nat} {i : Int32} {t ci v : Nat} {C E : String} {T : u_T} {NN : Nat} (j : Nat) (hdg : decode cc pc = .ok (.aastore, 1)) (hτ : τ a = some (.inr (t, N))) (h3 : 3 ≤ t) (ht : jj_aty t = .object E) (hi : i = nI j) (hj : j < N ∧ j < 2147483648) (hv : τ v = some (.inl ci)) (hc : jj_cl[ci]? = some (C, T, NN)) (hw : Cond.castable C E ∈ jj_tw) (kk : jj_J X Q k n (pc + 1) ls st τ I L (jj_u r a j (some v))) : jj_J X Q k n pc ls (jR (some v) :: jI i :: jR (some a) :: st) τ I L r := by
  obtain ⟨⟨l, D, aC, ad, A, sa⟩, p, e, R, s, m, args, below, meth, c⟩ := X
  intro H locs la hl hV hS
  obtain ⟨hin, hcl⟩ := jj_vin hi hj
  obtain ⟨h6, hcell⟩ := hV.1 a _ hτ
  have hK := hX.2.2.2.2.2.1
  have h9 := (hK.2 t h6).2
  rw [ht] at h9
  obtain ⟨kA, comp, k1, k2, k3, -⟩ := h9
  obtain ⟨kcomp, hkc, -⟩ := Vm.findClass_spec k3
  obtain ⟨q, h1, cellV, g1, g2, g3, -⟩ := hV.1 v _ hv
  cases h1.symm.trans hc
  have hKn := hK.1 ci _ hc
  obtain ⟨kC, hkC, -⟩ := hKn.2.2
  obtain ⟨c0, t0, f1, f2, f3⟩ := Cond.castable_spec (va_Nw.use (A := args) rfl (hX.2.2.2.2.2.2.1 _ hw))
  cases f1.symm.trans hKn.2.1
  cases f2.symm.trans k3
  have hak : jj_ak t = 2 := by
    match t, h3 with
    | 0, h => omega
    | 1, h => omega
    | 2, h => omega
    | t + 3, _ => rfl
  refine W.aast hX.1 hX.2.1 hcell (fun q h => by cases h) (fun h => by cases h) k1 k2 rfl hkc ⟨fun q => hin (Or.inl q), by rw [arrV_size, hcl]; exact hj.1⟩ g1 (fun q h => by rw [g3] at h; cases h) (by rw [g2]; exact hkC) (by rw [g2]; exact f3) rfl rfl hdg fun H1 e1 z oq => ?_
  refine kk H1 _ la hl (hV.put (I' := I) (L' := L) (r' := jj_u r a j (some v)) hτ ⟨h6, ?_⟩ oq ?_ ?_ ?_) (hS.put z oq (hV.2.2 a _ hτ (fun z => by cases z; omega)))
  · rw [e1, arrV_store, hcl]
    congr 2
    funext q
    by_cases hq : q = j
    · subst hq
      simp [updV, jj_u, jj_fv, hak, va_rf]
    · simp [updV, jj_u, hq]
  · intro b hb; rfl
  · intro b hb; rfl
  · intro b hb; exact jj_ua hb
theorem jj_aastN (hX : jj_ok X cc own nL fr lo mc ms) {a N : Nat} {i : Int32} {t : Nat} {E : String} (j : Nat) (hdg : decode cc pc = .ok (.aastore, 1)) (hτ : τ a = some (.inr (t, N))) (h3 : 3 ≤ t) (ht : jj_aty t = .object E) (hi : i = nI j) (hj : j < N ∧ j < 2147483648) (kk : jj_J X Q k n (pc + 1) ls st τ I L (jj_u r a j none)) : jj_J X Q k n pc ls (jR none :: jI i :: jR (some a) :: st) τ I L r := by
  obtain ⟨⟨l, D, aC, ad, A, sa⟩, p, e, R, s, m, args, below, meth, c⟩ := X
  intro H locs la hl hV hS
  obtain ⟨hin, hcl⟩ := jj_vin hi hj
  obtain ⟨h6, hcell⟩ := hV.1 a _ hτ
  have hK := (hX.2.2.2.2.2.1.2 t h6).1
  rw [ht] at hK
  have hak : jj_ak t = 2 := by
    match t, h3 with
    | 0, h => omega
    | 1, h => omega
    | 2, h => omega
    | t + 3, _ => rfl
  refine va_WaastN (C := E) hX.1 hX.2.1 hcell (hK N _) (fun h => by cases h) (by rw [arrV_size]; exact hin) rfl rfl hdg fun H1 e1 z oq => ?_
  refine kk H1 _ la hl (hV.put (I' := I) (L' := L) (r' := jj_u r a j none) hτ ⟨h6, ?_⟩ oq ?_ ?_ ?_) (hS.put z oq (hV.2.2 a _ hτ (fun z => by cases z; omega)))
  · rw [e1, arrV_store, hcl]
    congr 2
    funext q
    by_cases hq : q = j
    · subst hq
      simp [updV, jj_u, jj_fv, hak, va_rf]
    · simp [updV, jj_u, hq]
  · intro b hb; rfl
  · intro b hb; rfl
  · intro b hb; exact jj_ua hb
theorem jj_athrow (hX : jj_ok X cc own nL fr lo mc ms) {a : Nat} (hdg : decode cc pc = .ok (.athrow, 1)) (hτ : τ a = some (.inl 32)) (kk : jj_JT X Q k n pc ls a τ I L r) : jj_J X Q k n pc ls (jR (some a) :: st) τ I L r := by
  obtain ⟨⟨l, D, aC, ad, A, sa⟩, p, e, R, s, m, args, below, meth, c⟩ := X
  intro H locs la hl hV hS
  exact vy_athrow hX.1 hX.2.1 hdg (kk H locs la _ hl hV hS hτ)
end JC

def jj_wt (st : List jj_v) : Nat := match st with
  | [] => 0
  | v :: t => (if jj_w2 v then 2 else 1) + jj_wt t
theorem jj_wtc (ad : Nat → Nat) : ∀ st : List jj_v, ((st.map (jj_c ad)).map fun v => v.category).sum = jj_wt st
  | [] => rfl
  | v :: t => by
    rw [List.map_cons, List.map_cons, List.sum_cons, jj_wtc ad t]
    show _ = (if jj_w2 v then 2 else 1) + jj_wt t
    congr 1
    rcases v with x | x | x
    · rfl
    · rfl
    · cases x <;> rfl
theorem jj_blind (G : jj_G) (As : List Value) (τ : jj_T) (I : jj_I) (L : jj_L) (r : jj_R) (F : Heap → Prop) : FrameBlind (va_Pc As (fun U => jj_Wd G τ I L r U ∧ F U.heap)) := by
  intro a U g mk q
  obtain ⟨q0, ⟨q1, q2, q3, q4, q5⟩, q6⟩ := q
  exact ⟨q0, ⟨q1, q2.moved (u := U) (U := U.calling g mk a) (Vm.Alike.refl U.vm), jj_Tw.same (u := U) (U := U.calling g mk a) (rfl : U.vm = (U.calling g mk a).vm) q3, q4.moved (u := U) (U := U.calling g mk a) (Vm.Alike.refl U.vm), q5.moved (u := U) (U := U.calling g mk a) (Vm.Alike.refl U.vm)⟩, q6⟩
/-- a callee's world at the call -/
theorem jj_pre {l : Launch} {D : va_G} {aC : Nat → ClassId} {ad : Nat → Nat} {A : Nat → Prop} {sa : Nat → Nat} {p : Program} {e : Env} {R : Room} {s : State} {m : MethodId} {args : Array Value} {below : List Frame} {meth : Method} {c : Code} {cc : ByteArray} {own : String} {nL fr lo mc ms : Nat} (hX : jj_ok ((l, D, aC, ad, A, sa), p, e, R, s, m, args, below, meth, c) cc own nL fr lo mc ms)
    {τ : jj_T} {I : jj_I} {L : jj_L} {r : jj_R} {H : Heap} {locs : List Loc} (hV : jj_V D aC ad A τ I L r H) (hS : va_S A s.heap H locs) {fb : Bool} (hfb : fb = true → ∀ q, s.heap.size ≤ q → A q) {U : State} (hU : U.heap = H) (hW : s.WarmedH U.vm) : jj_Wd (l, D, aC, ad, A, sa) τ I L r U ∧ (fb = true → ∀ q, U.heap.size ≤ q → A q) := by
  obtain ⟨-, -, -, -, -, hK, hTw, hFw, hSt, -⟩ := hX
  refine ⟨⟨?_, hK.moved hW.alike, hTw.warm hW, hFw.moved hW.alike, ?_⟩, fun h q hq => hfb h q (Nat.le_trans hS.1 (by rw [← hU]; exact hq))⟩
  · show jj_V D aC ad A τ I L r U.heap
    rw [hU]; exact hV
  · show jj_S sa A U U.heap
    rw [hU]
    exact (hSt.kept hS.2.1).moved hW.alike
section JN
variable {l : Launch} {D : va_G} {aC : Nat → ClassId} {ad : Nat → Nat} {A : Nat → Prop} {sa : Nat → Nat} {p : Program} {e : Env} {R : Room} {s : State} {m : MethodId} {args : Array Value} {below : List Frame} {meth : Method} {c : Code} {k n pc mc' ms' : Nat} {Q : State → Prop} {H : Heap} {locs : List Loc} {la : Array Slot} {ls : List (Nat × jj_v)} {st0 : List Value} {rest : List jj_v} {P : jj_P} {PX : jj_PX} {av : Array Value}


theorem jj_after (hr : vy_Run p l e R s m args below meth c H locs k n mc' ms' (F0 m pc la st0) (rest.map (jj_c ad)) (jj_Qc (l, D, aC, ad, A, sa) P av) (jj_Xc (l, D, aC, ad, A, sa) PX) A) (hl : lv_has la c.maxLocals (jj_ml ad ls)) (hS : va_S A s.heap H locs)
    (kk : ∀ (v : Option jj_v) (τ : jj_T) (I : jj_I) (L : jj_L) (r : jj_R), P v τ I L r → jj_J ((l, D, aC, ad, A, sa), p, e, R, s, m, args, below, meth, c) Q (k + mc') (n + ms') (pc + 3) ls (v.toList ++ rest) τ I L r)
    (kx : ∀ (a : Nat) (τ : jj_T) (I : jj_I) (L : jj_L) (r : jj_R), PX a τ I L r → jj_JT ((l, D, aC, ad, A, sa), p, e, R, s, m, args, below, meth, c) Q (k + mc') (n + ms') pc ls a τ I L r) : W p l e R s m args below meth c H locs k n Q (F0 m pc la st0) := by
  intro T hT X
  rcases hr T hT X with ⟨v, st₀, t, T', L, h0, X', hL, e1, e2, ⟨v', τ, I, L9, r, hv, hp, hwd, hF⟩, st⟩ | ⟨q, st₀, t, T', L, E, ce, h0, X', hL, e1, e2, ⟨hE, a, τ, I, L9, r, hq, hτ, hp, hwd, hF⟩, hce, hcv, hcl, st⟩
  · cases hv
    obtain ⟨k1, k2, k3⟩ := vy_keep h0 e1 hS (fun _ _ h => h) (fun _ h => h) hL hF
    have hV : jj_V D aC ad A τ I L9 r T'.heap := by rw [e1]; exact hwd.1
    obtain ⟨t2, a1, b1⟩ := kk v' τ I L9 r hp T'.heap (locs ++ L) la hl hV k3 T' rfl X'
    refine ⟨t2, st t2 ?_, b1⟩
    cases v' <;> exact a1
  · obtain ⟨k1, k2, k3⟩ := vy_keep h0 e1 hS (fun _ _ h => h) (fun _ h => h) hL hF
    have hV : jj_V D aC ad A τ I L9 r T'.heap := by rw [e1]; exact hwd.1
    obtain ⟨t2, a1, b1⟩ := kx a τ I L9 r hp T'.heap (locs ++ L) la (rest.map (jj_c ad)) hl hV k3 hτ T' rfl X'
    refine ⟨t2, st.trans ?_, b1⟩
    rw [hq]
    exact a1

theorem jj_after5 (hr : vy_Run5 p l e R s m args below meth c H locs k n mc' ms' (F0 m pc la st0) (rest.map (jj_c ad)) (jj_Qc (l, D, aC, ad, A, sa) P av) (jj_Xc (l, D, aC, ad, A, sa) PX) A) (hl : lv_has la c.maxLocals (jj_ml ad ls)) (hS : va_S A s.heap H locs)
    (kk : ∀ (v : Option jj_v) (τ : jj_T) (I : jj_I) (L : jj_L) (r : jj_R), P v τ I L r → jj_J ((l, D, aC, ad, A, sa), p, e, R, s, m, args, below, meth, c) Q (k + mc') (n + ms') (pc + 5) ls (v.toList ++ rest) τ I L r)
    (kx : ∀ (a : Nat) (τ : jj_T) (I : jj_I) (L : jj_L) (r : jj_R), PX a τ I L r → jj_JT ((l, D, aC, ad, A, sa), p, e, R, s, m, args, below, meth, c) Q (k + mc') (n + ms') pc ls a τ I L r) : W p l e R s m args below meth c H locs k n Q (F0 m pc la st0) := by
  intro T hT X
  rcases hr T hT X with ⟨v, st₀, t, T', L, h0, X', hL, e1, e2, ⟨v', τ, I, L9, r, hv, hp, hwd, hF⟩, st⟩ | ⟨q, st₀, t, T', L, E, ce, h0, X', hL, e1, e2, ⟨hE, a, τ, I, L9, r, hq, hτ, hp, hwd, hF⟩, hce, hcv, hcl, st⟩
  · cases hv
    obtain ⟨k1, k2, k3⟩ := vy_keep h0 e1 hS (fun _ _ h => h) (fun _ h => h) hL hF
    have hV : jj_V D aC ad A τ I L9 r T'.heap := by rw [e1]; exact hwd.1
    obtain ⟨t2, a1, b1⟩ := kk v' τ I L9 r hp T'.heap (locs ++ L) la hl hV k3 T' rfl X'
    refine ⟨t2, st t2 ?_, b1⟩
    cases v' <;> exact a1
  · obtain ⟨k1, k2, k3⟩ := vy_keep h0 e1 hS (fun _ _ h => h) (fun _ h => h) hL hF
    have hV : jj_V D aC ad A τ I L9 r T'.heap := by rw [e1]; exact hwd.1
    obtain ⟨t2, a1, b1⟩ := kx a τ I L9 r hp T'.heap (locs ++ L) la (rest.map (jj_c ad)) hl hV k3 hτ T' rfl X'
    refine ⟨t2, st.trans ?_, b1⟩
    rw [hq]
    exact a1
end JN
section JC2
variable {X : jj_X} {cc : ByteArray} {own : String} {nL fr lo mc ms : Nat} {Q : State → Prop} {k n pc : Nat} {ls : List (Nat × jj_v)} {st rest : List jj_v} {τ : jj_T} {I : jj_I} {L : jj_L} {r : jj_R}
variable {y : MethodName} {bytes : ByteArray} {maxL : Nat} {ret : Option FieldType} {rm : Room} {As : List jj_v} {fb : Bool} {P : jj_P} {PX : jj_PX} {idx b ci : Nat} {C : String} {T : u_T} {N : Nat}
theorem jj_callV (hX : jj_ok X cc own nL fr lo mc ms) (hM : jj_M X.1 y (ws_ y bytes maxL ret) rm (jR (some b) :: As) fb τ I L r P PX) (hdg : decode cc pc = .ok (.invokevirtual idx, 3)) (hw : GoodIn lw_all (wsV own idx C y (ws_ y bytes maxL ret))) (hyC : y.cls = C) (hy : y.cls ≠ "java/lang/invoke/MethodHandle" ∧ y.cls ≠ "java/lang/invoke/VarHandle" ∧ (parseMethodDescriptor y.desc).map (fun d => d.parameters.length) = some As.length) (hn : rm.frames + 1 ≤ fr ∧ 8 + (maxL + 11) + rm.locals ≤ lo ∧ k + rm.cells ≤ mc ∧ n + rm.slots ≤ ms ∧ jj_wt rest ≤ 8) (hfb : fb = true → jj_Fr X) (hτ : τ b = some (.inl ci)) (hc : jj_cl[ci]? = some (C, T, N)) (hst : st = As.reverse ++ jR (some b) :: rest) (kk : ∀ (v : Option jj_v) (τ' : jj_T) (I' : jj_I) (L' : jj_L) (r' : jj_R), P v τ' I' L' r' → jj_J X Q (k + rm.cells) (n + rm.slots) (pc + 3) ls (v.toList ++ rest) τ' I' L' r') (kx : ∀ (a : Nat) (τ' : jj_T) (I' : jj_I) (L' : jj_L) (r' : jj_R), PX a τ' I' L' r' → jj_JT X Q (k + rm.cells) (n + rm.slots) pc ls a τ' I' L' r') : jj_J X Q k n pc ls st τ I L r := by
  obtain ⟨⟨l, D, aC, ad, A, sa⟩, p, e, R, s, m, args, below, meth, c⟩ := X
  intro H locs la hl hV hS
  have hX' := hX
  obtain ⟨hx, hb, hml, hown, hts, hK, hTw, hFw, hSt, hlk, hRf, hRl, hRc, hRs⟩ := hX'
  obtain ⟨hn1, hn2, hn3, hn4, hn5⟩ := hn
  have hfl : rm.frames + 1 ≤ R.frames ∧ 8 + (maxL + 11) + rm.locals ≤ R.locals := ⟨by rw [hRf]; exact hn1, by rw [hRl]; exact hn2⟩
  have hcs : k + rm.cells ≤ R.cells ∧ n + rm.slots ≤ R.slots := ⟨by rw [hRc]; exact hn3, by rw [hRs]; exact hn4⟩
  have hw8 : 2 * (F0 m pc la (st.map (jj_c ad))).monitorRoom + ((rest.map (jj_c ad)).map fun v => v.category).sum ≤ 8 := lv_room (by rw [jj_wtc]; exact hn5)
  obtain ⟨q, h1, cell, q1, q2, q3, q4⟩ := hV.1 b _ hτ
  cases h1.symm.trans hc
  have hKn := hK.1 ci _ hc
  have hrecv : ∃ cellB : Cell, H[ad b]? = some cellB ∧ cellB.vm.isStatics = false ∧ s.vm.findClass C = some cellB.cls := ⟨cell, q1, by rw [q3]; rfl, by rw [q2]; exact hKn.2.1⟩
  refine jj_after (l := l) (D := D) (aC := aC) (ad := ad) (A := A) (sa := sa) (P := P) (PX := PX) (rest := rest) (vy_runV (C := C) (bytes := bytes) (maxL := maxL) (ret := ret) (As := As.map (jj_c ad)) ⟨hx, hb, hml, hown, hts⟩ hM (cwV As.length hts hw rfl rfl rfl ⟨hyC, hy⟩ hfl) ⟨jj_blind (l, D, aC, ad, A, sa) _ τ I L r (fun H => fb = true → ∀ q, H.size ≤ q → A q), hrecv, fun U hU hW => ⟨by rw [List.map_cons]; rfl, jj_pre hX hV hS hfb hU hW⟩⟩ rfl (by simp) (hl.1.trans hml) (by show st.map (jj_c ad) = _; rw [hst]; simp [List.map_append, List.map_reverse, jj_c, va_rf]) hw8 hdg hcs) hl hS kk kx
theorem jj_callS (hX : jj_ok X cc own nL fr lo mc ms) (hM : jj_M X.1 y (ws_ y bytes maxL ret) rm As fb τ I L r P PX) (hdg : decode cc pc = .ok (.invokestatic idx, 3)) (hw : GoodIn lw_all (va_wsS own idx y (ws_ y bytes maxL ret))) (hy : y.cls ≠ "java/lang/invoke/MethodHandle" ∧ y.cls ≠ "java/lang/invoke/VarHandle" ∧ (parseMethodDescriptor y.desc).map (fun d => d.parameters.length) = some As.length) (hn : rm.frames + 1 ≤ fr ∧ 8 + (maxL + 11) + rm.locals ≤ lo ∧ k + rm.cells ≤ mc ∧ n + rm.slots ≤ ms ∧ jj_wt rest ≤ 8) (hfb : fb = true → jj_Fr X) (hst : st = As.reverse ++ rest) (kk : ∀ (v : Option jj_v) (τ' : jj_T) (I' : jj_I) (L' : jj_L) (r' : jj_R), P v τ' I' L' r' → jj_J X Q (k + rm.cells) (n + rm.slots) (pc + 3) ls (v.toList ++ rest) τ' I' L' r') (kx : ∀ (a : Nat) (τ' : jj_T) (I' : jj_I) (L' : jj_L) (r' : jj_R), PX a τ' I' L' r' → jj_JT X Q (k + rm.cells) (n + rm.slots) pc ls a τ' I' L' r') : jj_J X Q k n pc ls st τ I L r := by
  obtain ⟨⟨l, D, aC, ad, A, sa⟩, p, e, R, s, m, args, below, meth, c⟩ := X
  intro H locs la hl hV hS
  have hX' := hX
  obtain ⟨hx, hb, hml, hown, hts, hK, hTw, hFw, hSt, hlk, hRf, hRl, hRc, hRs⟩ := hX'
  obtain ⟨hn1, hn2, hn3, hn4, hn5⟩ := hn
  have hfl : rm.frames + 1 ≤ R.frames ∧ 8 + (maxL + 11) + rm.locals ≤ R.locals := ⟨by rw [hRf]; exact hn1, by rw [hRl]; exact hn2⟩
  have hcs : k + rm.cells ≤ R.cells ∧ n + rm.slots ≤ R.slots := ⟨by rw [hRc]; exact hn3, by rw [hRs]; exact hn4⟩
  have hw8 : 2 * (F0 m pc la (st.map (jj_c ad))).monitorRoom + ((rest.map (jj_c ad)).map fun v => v.category).sum ≤ 8 := lv_room (by rw [jj_wtc]; exact hn5)
  refine jj_after (l := l) (D := D) (aC := aC) (ad := ad) (A := A) (sa := sa) (P := P) (PX := PX) (rest := rest) (vy_runS (bytes := bytes) (maxL := maxL) (ret := ret) (As := As.map (jj_c ad)) ⟨hx, hb, hml, hown, hts⟩ hM (va_cwS As.length hts hw rfl rfl rfl hy hfl) ⟨jj_blind (l, D, aC, ad, A, sa) _ τ I L r (fun H => fb = true → ∀ q, H.size ≤ q → A q), fun U hU hW => ⟨rfl, jj_pre hX hV hS hfb hU hW⟩⟩ rfl (by simp) (hl.1.trans hml) (by show st.map (jj_c ad) = _; rw [hst]; simp [List.map_append, List.map_reverse]) hw8 hdg hcs) hl hS kk kx
theorem jj_callI (hX : jj_ok X cc own nL fr lo mc ms) (hM : jj_M X.1 y (ws_ y bytes maxL none) rm (jR (some b) :: As) fb τ I L r P PX) (hdg : decode cc pc = .ok (.invokespecial idx, 3)) (hw : GoodIn lw_all (ws_ y bytes maxL none)) (hw2 : Cond.methodLink own idx y ∈ lw_all ∧ Cond.instanceMethod y ∈ lw_all ∧ Cond.initialized y.cls ∈ lw_all ∧ y.name = "<init>") (hy : y.cls ≠ "java/lang/invoke/MethodHandle" ∧ y.cls ≠ "java/lang/invoke/VarHandle" ∧ (parseMethodDescriptor y.desc).map (fun d => d.parameters.length) = some As.length) (hn : rm.frames + 1 ≤ fr ∧ 8 + (maxL + 11) + rm.locals ≤ lo ∧ k + rm.cells ≤ mc ∧ n + rm.slots ≤ ms ∧ jj_wt rest ≤ 8) (hfb : fb = true → jj_Fr X) (hst : st = As.reverse ++ jR (some b) :: rest) (kk : ∀ (v : Option jj_v) (τ' : jj_T) (I' : jj_I) (L' : jj_L) (r' : jj_R), P v τ' I' L' r' → jj_J X Q (k + rm.cells) (n + rm.slots) (pc + 3) ls (v.toList ++ rest) τ' I' L' r') (kx : ∀ (a : Nat) (τ' : jj_T) (I' : jj_I) (L' : jj_L) (r' : jj_R), PX a τ' I' L' r' → jj_JT X Q (k + rm.cells) (n + rm.slots) pc ls a τ' I' L' r') : jj_J X Q k n pc ls st τ I L r := by
  obtain ⟨⟨l, D, aC, ad, A, sa⟩, p, e, R, s, m, args, below, meth, c⟩ := X
  intro H locs la hl hV hS
  have hX' := hX
  obtain ⟨hx, hb, hml, hown, hts, hK, hTw, hFw, hSt, hlk, hRf, hRl, hRc, hRs⟩ := hX'
  obtain ⟨hn1, hn2, hn3, hn4, hn5⟩ := hn
  have hfl : rm.frames + 1 ≤ R.frames ∧ 8 + (maxL + 11) + rm.locals ≤ R.locals := ⟨by rw [hRf]; exact hn1, by rw [hRl]; exact hn2⟩
  have hcs : k + rm.cells ≤ R.cells ∧ n + rm.slots ≤ R.slots := ⟨by rw [hRc]; exact hn3, by rw [hRs]; exact hn4⟩
  have hw8 : 2 * (F0 m pc la (st.map (jj_c ad))).monitorRoom + ((rest.map (jj_c ad)).map fun v => v.category).sum ≤ 8 := lv_room (by rw [jj_wtc]; exact hn5)
  refine jj_after (l := l) (D := D) (aC := aC) (ad := ad) (A := A) (sa := sa) (P := P) (PX := PX) (rest := rest) (vy_runI (bytes := bytes) (maxL := maxL) (b := ad b) (As := As.map (jj_c ad)) ⟨hx, hb, hml, hown, hts⟩ hM (cwI As.length hts hw rfl rfl rfl (hts _ hw2.2.2.1) (hts _ hw2.1) (hts _ hw2.2.1) hw2.2.2.2 hy hfl) ⟨jj_blind (l, D, aC, ad, A, sa) _ τ I L r (fun H => fb = true → ∀ q, H.size ≤ q → A q), fun U hU hW => ⟨rfl, jj_pre hX hV hS hfb hU hW⟩⟩ rfl (by simp) (hl.1.trans hml) (by show st.map (jj_c ad) = _; rw [hst]; simp [List.map_append, List.map_reverse, jj_c, va_rf]) hw8 hdg hcs) hl hS kk kx
theorem jj_callVN (hX : jj_ok X cc own nL fr lo mc ms) (hM : jj_M X.1 y (ws_ y bytes maxL ret) rm (jR (some b) :: As) fb τ I L r P PX) (hdg : decode cc pc = .ok (.invokevirtual idx, 3)) (hw : GoodIn lw_all (ws_ y bytes maxL ret)) {host : String} (hw3 : Cond.methodLinkNest own idx y host ∈ jj_tw) (hw2 : Cond.instanceMethod y ∈ lw_all ∧ Cond.selects C y y ∈ lw_all ∧ Cond.initialized y.cls ∈ lw_all) (hy : y.cls ≠ "java/lang/invoke/MethodHandle" ∧ y.cls ≠ "java/lang/invoke/VarHandle" ∧ (parseMethodDescriptor y.desc).map (fun d => d.parameters.length) = some As.length) (hn : rm.frames + 1 ≤ fr ∧ 8 + (maxL + 11) + rm.locals ≤ lo ∧ k + rm.cells ≤ mc ∧ n + rm.slots ≤ ms ∧ jj_wt rest ≤ 8) (hfb : fb = true → jj_Fr X) (hτ : τ b = some (.inl ci)) (hc : jj_cl[ci]? = some (C, T, N)) (hst : st = As.reverse ++ jR (some b) :: rest) (kk : ∀ (v : Option jj_v) (τ' : jj_T) (I' : jj_I) (L' : jj_L) (r' : jj_R), P v τ' I' L' r' → jj_J X Q (k + rm.cells) (n + rm.slots) (pc + 3) ls (v.toList ++ rest) τ' I' L' r') (kx : ∀ (a : Nat) (τ' : jj_T) (I' : jj_I) (L' : jj_L) (r' : jj_R), PX a τ' I' L' r' → jj_JT X Q (k + rm.cells) (n + rm.slots) pc ls a τ' I' L' r') : jj_J X Q k n pc ls st τ I L r := by
  obtain ⟨⟨l, D, aC, ad, A, sa⟩, p, e, R, s, m, args, below, meth, c⟩ := X
  intro H locs la hl hV hS
  have hX' := hX
  obtain ⟨hx, hb, hml, hown, hts, hK, hTw, hFw, hSt, hlk, hRf, hRl, hRc, hRs⟩ := hX'
  obtain ⟨hn1, hn2, hn3, hn4, hn5⟩ := hn
  have hfl : rm.frames + 1 ≤ R.frames ∧ 8 + (maxL + 11) + rm.locals ≤ R.locals := ⟨by rw [hRf]; exact hn1, by rw [hRl]; exact hn2⟩
  have hcs : k + rm.cells ≤ R.cells ∧ n + rm.slots ≤ R.slots := ⟨by rw [hRc]; exact hn3, by rw [hRs]; exact hn4⟩
  have hw8 : 2 * (F0 m pc la (st.map (jj_c ad))).monitorRoom + ((rest.map (jj_c ad)).map fun v => v.category).sum ≤ 8 := lv_room (by rw [jj_wtc]; exact hn5)
  obtain ⟨q, h1, cell, q1, q2, q3, q4⟩ := hV.1 b _ hτ
  cases h1.symm.trans hc
  have hKn := hK.1 ci _ hc
  have hrecv : ∃ cellB : Cell, H[ad b]? = some cellB ∧ cellB.vm.isStatics = false ∧ s.vm.findClass C = some cellB.cls := ⟨cell, q1, by rw [q3]; rfl, by rw [q2]; exact hKn.2.1⟩
  refine jj_after (l := l) (D := D) (aC := aC) (ad := ad) (A := A) (sa := sa) (P := P) (PX := PX) (rest := rest) (vy_runVN (C := C) (bytes := bytes) (maxL := maxL) (ret := ret) (As := As.map (jj_c ad)) ⟨hx, hb, hml, hown, hts⟩ hM ⟨va_cnB As.length hts hw rfl rfl rfl (hTw _ hw3) (hts _ hw2.2.2) hy hfl, hts _ hw2.1, hts _ hw2.2.1⟩ ⟨jj_blind (l, D, aC, ad, A, sa) _ τ I L r (fun H => fb = true → ∀ q, H.size ≤ q → A q), hrecv, fun U hU hW => ⟨by rw [List.map_cons]; rfl, jj_pre hX hV hS hfb hU hW⟩⟩ rfl (by simp) (hl.1.trans hml) (by show st.map (jj_c ad) = _; rw [hst]; simp [List.map_append, List.map_reverse, jj_c, va_rf]) hw8 hdg hcs) hl hS kk kx
theorem jj_callSN (hX : jj_ok X cc own nL fr lo mc ms) (hM : jj_M X.1 y (ws_ y bytes maxL ret) rm As fb τ I L r P PX) (hdg : decode cc pc = .ok (.invokestatic idx, 3)) (hw : GoodIn lw_all (ws_ y bytes maxL ret)) {host : String} (hw3 : Cond.methodLinkNest own idx y host ∈ jj_tw) (hw2 : Cond.static y ∈ lw_all ∧ Cond.initialized y.cls ∈ lw_all) (hy : y.cls ≠ "java/lang/invoke/MethodHandle" ∧ y.cls ≠ "java/lang/invoke/VarHandle" ∧ (parseMethodDescriptor y.desc).map (fun d => d.parameters.length) = some As.length) (hn : rm.frames + 1 ≤ fr ∧ 8 + (maxL + 11) + rm.locals ≤ lo ∧ k + rm.cells ≤ mc ∧ n + rm.slots ≤ ms ∧ jj_wt rest ≤ 8) (hfb : fb = true → jj_Fr X) (hst : st = As.reverse ++ rest) (kk : ∀ (v : Option jj_v) (τ' : jj_T) (I' : jj_I) (L' : jj_L) (r' : jj_R), P v τ' I' L' r' → jj_J X Q (k + rm.cells) (n + rm.slots) (pc + 3) ls (v.toList ++ rest) τ' I' L' r') (kx : ∀ (a : Nat) (τ' : jj_T) (I' : jj_I) (L' : jj_L) (r' : jj_R), PX a τ' I' L' r' → jj_JT X Q (k + rm.cells) (n + rm.slots) pc ls a τ' I' L' r') : jj_J X Q k n pc ls st τ I L r := by
  obtain ⟨⟨l, D, aC, ad, A, sa⟩, p, e, R, s, m, args, below, meth, c⟩ := X
  intro H locs la hl hV hS
  have hX' := hX
  obtain ⟨hx, hb, hml, hown, hts, hK, hTw, hFw, hSt, hlk, hRf, hRl, hRc, hRs⟩ := hX'
  obtain ⟨hn1, hn2, hn3, hn4, hn5⟩ := hn
  have hfl : rm.frames + 1 ≤ R.frames ∧ 8 + (maxL + 11) + rm.locals ≤ R.locals := ⟨by rw [hRf]; exact hn1, by rw [hRl]; exact hn2⟩
  have hcs : k + rm.cells ≤ R.cells ∧ n + rm.slots ≤ R.slots := ⟨by rw [hRc]; exact hn3, by rw [hRs]; exact hn4⟩
  have hw8 : 2 * (F0 m pc la (st.map (jj_c ad))).monitorRoom + ((rest.map (jj_c ad)).map fun v => v.category).sum ≤ 8 := lv_room (by rw [jj_wtc]; exact hn5)
  refine jj_after (l := l) (D := D) (aC := aC) (ad := ad) (A := A) (sa := sa) (P := P) (PX := PX) (rest := rest) (vy_runSN (bytes := bytes) (maxL := maxL) (ret := ret) (As := As.map (jj_c ad)) ⟨hx, hb, hml, hown, hts⟩ hM ⟨va_cnB As.length hts hw rfl rfl rfl (hTw _ hw3) (hts _ hw2.2) hy hfl, hts _ hw2.1, trivial⟩ ⟨jj_blind (l, D, aC, ad, A, sa) _ τ I L r (fun H => fb = true → ∀ q, H.size ≤ q → A q), fun U hU hW => ⟨rfl, jj_pre hX hV hS hfb hU hW⟩⟩ rfl (by simp) (hl.1.trans hml) (by show st.map (jj_c ad) = _; rw [hst]; simp [List.map_append, List.map_reverse]) hw8 hdg hcs) hl hS kk kx
theorem jj_callIN (hX : jj_ok X cc own nL fr lo mc ms) (hM : jj_M X.1 y (ws_ y bytes maxL none) rm (jR (some b) :: As) fb τ I L r P PX) (hdg : decode cc pc = .ok (.invokespecial idx, 3)) (hw : GoodIn lw_all (ws_ y bytes maxL none)) {host : String} (hw3 : Cond.methodLinkNest own idx y host ∈ jj_tw) (hw2 : Cond.instanceMethod y ∈ lw_all ∧ Cond.initialized y.cls ∈ lw_all ∧ y.name = "<init>") (hy : y.cls ≠ "java/lang/invoke/MethodHandle" ∧ y.cls ≠ "java/lang/invoke/VarHandle" ∧ (parseMethodDescriptor y.desc).map (fun d => d.parameters.length) = some As.length) (hn : rm.frames + 1 ≤ fr ∧ 8 + (maxL + 11) + rm.locals ≤ lo ∧ k + rm.cells ≤ mc ∧ n + rm.slots ≤ ms ∧ jj_wt rest ≤ 8) (hfb : fb = true → jj_Fr X) (hst : st = As.reverse ++ jR (some b) :: rest) (kk : ∀ (v : Option jj_v) (τ' : jj_T) (I' : jj_I) (L' : jj_L) (r' : jj_R), P v τ' I' L' r' → jj_J X Q (k + rm.cells) (n + rm.slots) (pc + 3) ls (v.toList ++ rest) τ' I' L' r') (kx : ∀ (a : Nat) (τ' : jj_T) (I' : jj_I) (L' : jj_L) (r' : jj_R), PX a τ' I' L' r' → jj_JT X Q (k + rm.cells) (n + rm.slots) pc ls a τ' I' L' r') : jj_J X Q k n pc ls st τ I L r := by
  obtain ⟨⟨l, D, aC, ad, A, sa⟩, p, e, R, s, m, args, below, meth, c⟩ := X
  intro H locs la hl hV hS
  have hX' := hX
  obtain ⟨hx, hb, hml, hown, hts, hK, hTw, hFw, hSt, hlk, hRf, hRl, hRc, hRs⟩ := hX'
  obtain ⟨hn1, hn2, hn3, hn4, hn5⟩ := hn
  have hfl : rm.frames + 1 ≤ R.frames ∧ 8 + (maxL + 11) + rm.locals ≤ R.locals := ⟨by rw [hRf]; exact hn1, by rw [hRl]; exact hn2⟩
  have hcs : k + rm.cells ≤ R.cells ∧ n + rm.slots ≤ R.slots := ⟨by rw [hRc]; exact hn3, by rw [hRs]; exact hn4⟩
  have hw8 : 2 * (F0 m pc la (st.map (jj_c ad))).monitorRoom + ((rest.map (jj_c ad)).map fun v => v.category).sum ≤ 8 := lv_room (by rw [jj_wtc]; exact hn5)
  refine jj_after (l := l) (D := D) (aC := aC) (ad := ad) (A := A) (sa := sa) (P := P) (PX := PX) (rest := rest) (vy_runIN (bytes := bytes) (maxL := maxL) (b := ad b) (As := As.map (jj_c ad)) ⟨hx, hb, hml, hown, hts⟩ hM ⟨va_cnB As.length hts hw rfl rfl rfl (hTw _ hw3) (hts _ hw2.2.1) hy hfl, hw2.2.2, hts _ hw2.1⟩ ⟨jj_blind (l, D, aC, ad, A, sa) _ τ I L r (fun H => fb = true → ∀ q, H.size ≤ q → A q), fun U hU hW => ⟨rfl, jj_pre hX hV hS hfb hU hW⟩⟩ rfl (by simp) (hl.1.trans hml) (by show st.map (jj_c ad) = _; rw [hst]; simp [List.map_append, List.map_reverse, jj_c, va_rf]) hw8 hdg hcs) hl hS kk kx

theorem jj_CU {R : Room} {s : State} {args : Array Value} {own C owner : String} {index maxL mc ms : Nat} {x y : MethodName} {bytes : ByteArray} {ret : Option FieldType} {rm : Room} (n : Nat) (hts : ∀ w ∈ lw_all, w.before args s = true) (hTw : jj_Tw s) (hG : GoodIn lw_all (ws_ y bytes maxL ret)) (hrc : rm.cells = mc) (hrs : rm.slots = ms)
    (hw : Cond.methodLink own index x ∈ lw_all ∧ Cond.sameMethod x.cls owner x.name x.desc ∈ lw_all ∧ Cond.selects C x y ∈ lw_all ∧ Cond.instanceMethod y ∈ lw_all ∧ Cond.initialized y.cls ∈ lw_all ∧ Cond.declares ⟨owner, x.name, x.desc⟩ ∈ jj_tw) (hd : owner ≠ "java/lang/invoke/MethodHandle" ∧ owner ≠ "java/lang/invoke/VarHandle" ∧ (parseMethodDescriptor x.desc).map (fun d => d.parameters.length) = some n) (hR : rm.frames + 1 ≤ R.frames ∧ 8 + (maxL + 11) + rm.locals ≤ R.locals) : va_CU R s args own C owner index x y bytes maxL ret (ws_ y bytes maxL ret) rm mc ms n := by
  have hc : Cond.code y bytes maxL ret ∈ ws_ y bytes maxL ret := List.mem_cons_self
  obtain ⟨w1, w2, w3, w4, w5, w6⟩ := hw
  have hdec : va_Decl s ⟨owner, x.name, x.desc⟩ := by
    obtain ⟨r0, r, hn, hrm, hst, hsig⟩ := Cond.declares_spec (va_Nw.use (A := args) rfl (hTw _ w6))
    exact ⟨r0, r, hn, hrm, hst, hsig⟩
  refine ⟨⟨hrc, hrs, hR.1, hR.2, pay_in hts hG, hc⟩, hts _ (hG _ hc).1, hts _ w5, ⟨hd.1, hd.2.1⟩, fun sig h => ?_, hts _ w1, hts _ w2, hdec, hts _ w3, hts _ w4⟩
  have h2 := hd.2.2
  rw [h] at h2
  exact (Option.some.inj h2).symm

theorem jj_callU (hX : jj_ok X cc own nL fr lo mc ms) (hM : jj_M X.1 y (ws_ y bytes maxL ret) rm (jR (some b) :: As) fb τ I L r P PX) (hdg : decode cc pc = .ok (.invokevirtual idx, 3)) {x : MethodName} {owner : String} (hw : GoodIn lw_all (ws_ y bytes maxL ret)) (hw2 : Cond.methodLink own idx x ∈ lw_all ∧ Cond.sameMethod x.cls owner x.name x.desc ∈ lw_all ∧ Cond.selects C x y ∈ lw_all ∧ Cond.instanceMethod y ∈ lw_all ∧ Cond.initialized y.cls ∈ lw_all ∧ Cond.declares ⟨owner, x.name, x.desc⟩ ∈ jj_tw) (hy : owner ≠ "java/lang/invoke/MethodHandle" ∧ owner ≠ "java/lang/invoke/VarHandle" ∧ (parseMethodDescriptor x.desc).map (fun d => d.parameters.length) = some As.length) (hn : rm.frames + 1 ≤ fr ∧ 8 + (maxL + 11) + rm.locals ≤ lo ∧ k + rm.cells ≤ mc ∧ n + rm.slots ≤ ms ∧ jj_wt rest ≤ 8) (hfb : fb = true → jj_Fr X) (hτ : τ b = some (.inl ci)) (hc : jj_cl[ci]? = some (C, T, N)) (hst : st = As.reverse ++ jR (some b) :: rest) (kk : ∀ (v : Option jj_v) (τ' : jj_T) (I' : jj_I) (L' : jj_L) (r' : jj_R), P v τ' I' L' r' → jj_J X Q (k + rm.cells) (n + rm.slots) (pc + 3) ls (v.toList ++ rest) τ' I' L' r') (kx : ∀ (a : Nat) (τ' : jj_T) (I' : jj_I) (L' : jj_L) (r' : jj_R), PX a τ' I' L' r' → jj_JT X Q (k + rm.cells) (n + rm.slots) pc ls a τ' I' L' r') : jj_J X Q k n pc ls st τ I L r := by
  obtain ⟨⟨l, D, aC, ad, A, sa⟩, p, e, R, s, m, args, below, meth, c⟩ := X
  intro H locs la hl hV hS
  have hX' := hX
  obtain ⟨hx, hb, hml, hown, hts, hK, hTw, hFw, hSt, hlk, hRf, hRl, hRc, hRs⟩ := hX'
  obtain ⟨hn1, hn2, hn3, hn4, hn5⟩ := hn
  have hfl : rm.frames + 1 ≤ R.frames ∧ 8 + (maxL + 11) + rm.locals ≤ R.locals := ⟨by rw [hRf]; exact hn1, by rw [hRl]; exact hn2⟩
  have hcs : k + rm.cells ≤ R.cells ∧ n + rm.slots ≤ R.slots := ⟨by rw [hRc]; exact hn3, by rw [hRs]; exact hn4⟩
  have hw8 : 2 * (F0 m pc la (st.map (jj_c ad))).monitorRoom + ((rest.map (jj_c ad)).map fun v => v.category).sum ≤ 8 := lv_room (by rw [jj_wtc]; exact hn5)
  obtain ⟨q, h1, cell, q1, q2, q3, q4⟩ := hV.1 b _ hτ
  cases h1.symm.trans hc
  have hKn := hK.1 ci _ hc
  have hrecv : ∃ cellB : Cell, H[ad b]? = some cellB ∧ cellB.vm.isStatics = false ∧ s.vm.findClass C = some cellB.cls := ⟨cell, q1, by rw [q3]; rfl, by rw [q2]; exact hKn.2.1⟩
  refine jj_after (l := l) (D := D) (aC := aC) (ad := ad) (A := A) (sa := sa) (P := P) (PX := PX) (rest := rest) (vy_runU (C := C) (owner := owner) (x := x) (bytes := bytes) (maxL := maxL) (ret := ret) (As := As.map (jj_c ad)) ⟨hx, hb, hml, hown, hts⟩ hM (jj_CU As.length hts hTw hw rfl rfl hw2 hy hfl) ⟨jj_blind (l, D, aC, ad, A, sa) _ τ I L r (fun H => fb = true → ∀ q, H.size ≤ q → A q), hrecv, fun U hU hW => ⟨by rw [List.map_cons]; rfl, jj_pre hX hV hS hfb hU hW⟩⟩ rfl (by simp) (hl.1.trans hml) (by show st.map (jj_c ad) = _; rw [hst]; simp [List.map_append, List.map_reverse, jj_c, va_rf]) hw8 hdg hcs) hl hS kk kx
theorem jj_callF (hX : jj_ok X cc own nL fr lo mc ms) {cnt : Nat} (hM : jj_M X.1 y (ws_ y bytes maxL ret) rm (jR (some b) :: As) fb τ I L r P PX) (hdg : decode cc pc = .ok (.invokeinterface idx cnt, 5)) {x : MethodName} (hw : GoodIn lw_all (va_wsF own idx C x y (ws_ y bytes maxL ret))) (hw2 : (C, x, y) ∈ jj_fl) (hy : x.cls ≠ "java/lang/invoke/MethodHandle" ∧ x.cls ≠ "java/lang/invoke/VarHandle" ∧ (parseMethodDescriptor x.desc).map (fun d => d.parameters.length) = some As.length) (hn : rm.frames + 1 ≤ fr ∧ 8 + (maxL + 11) + rm.locals ≤ lo ∧ k + rm.cells ≤ mc ∧ n + rm.slots ≤ ms ∧ jj_wt rest ≤ 8) (hfb : fb = true → jj_Fr X) (hτ : τ b = some (.inl ci)) (hc : jj_cl[ci]? = some (C, T, N)) (hst : st = As.reverse ++ jR (some b) :: rest) (kk : ∀ (v : Option jj_v) (τ' : jj_T) (I' : jj_I) (L' : jj_L) (r' : jj_R), P v τ' I' L' r' → jj_J X Q (k + rm.cells) (n + rm.slots) (pc + 5) ls (v.toList ++ rest) τ' I' L' r') (kx : ∀ (a : Nat) (τ' : jj_T) (I' : jj_I) (L' : jj_L) (r' : jj_R), PX a τ' I' L' r' → jj_JT X Q (k + rm.cells) (n + rm.slots) pc ls a τ' I' L' r') : jj_J X Q k n pc ls st τ I L r := by
  obtain ⟨⟨l, D, aC, ad, A, sa⟩, p, e, R, s, m, args, below, meth, c⟩ := X
  intro H locs la hl hV hS
  have hX' := hX
  obtain ⟨hx, hb, hml, hown, hts, hK, hTw, hFw, hSt, hlk, hRf, hRl, hRc, hRs⟩ := hX'
  obtain ⟨hn1, hn2, hn3, hn4, hn5⟩ := hn
  have hfl : rm.frames + 1 ≤ R.frames ∧ 8 + (maxL + 11) + rm.locals ≤ R.locals := ⟨by rw [hRf]; exact hn1, by rw [hRl]; exact hn2⟩
  have hcs : k + rm.cells ≤ R.cells ∧ n + rm.slots ≤ R.slots := ⟨by rw [hRc]; exact hn3, by rw [hRs]; exact hn4⟩
  have hw8 : 2 * (F0 m pc la (st.map (jj_c ad))).monitorRoom + ((rest.map (jj_c ad)).map fun v => v.category).sum ≤ 8 := lv_room (by rw [jj_wtc]; exact hn5)
  obtain ⟨q, h1, cell, q1, q2, q3, q4⟩ := hV.1 b _ hτ
  cases h1.symm.trans hc
  have hKn := hK.1 ci _ hc
  have hrecv : ∃ cellB : Cell, H[ad b]? = some cellB ∧ cellB.vm.isStatics = false ∧ s.vm.findClass C = some cellB.cls := ⟨cell, q1, by rw [q3]; rfl, by rw [q2]; exact hKn.2.1⟩
  refine jj_after5 (l := l) (D := D) (aC := aC) (ad := ad) (A := A) (sa := sa) (P := P) (PX := PX) (rest := rest) (vy_runF (C := C) (x := x) (bytes := bytes) (maxL := maxL) (ret := ret) (As := As.map (jj_c ad)) hKn.2 ⟨hx, hb, hml, hown, hts⟩ hM (va_cwF As.length hts hw rfl rfl rfl (hFw _ hw2) hy hfl) ⟨jj_blind (l, D, aC, ad, A, sa) _ τ I L r (fun H => fb = true → ∀ q, H.size ≤ q → A q), hrecv, fun U hU hW => ⟨by rw [List.map_cons]; rfl, jj_pre hX hV hS hfb hU hW⟩⟩ rfl (by simp) (hl.1.trans hml) (by show st.map (jj_c ad) = _; rw [hst]; simp [List.map_append, List.map_reverse, jj_c, va_rf]) hw8 hdg hcs) hl hS kk kx
theorem jj_callVX (hX : jj_ok X cc own nL fr lo mc ms) {hh : List (Nat × Nat × Nat × Nat)} (hM : jj_M X.1 y (wsW_ y bytes maxL ret hh) rm (jR (some b) :: As) fb τ I L r P PX) (hdg : decode cc pc = .ok (.invokevirtual idx, 3)) (hw : GoodIn lw_all (wsV own idx C y (wsW_ y bytes maxL ret hh))) (hyC : y.cls = C) (hy : y.cls ≠ "java/lang/invoke/MethodHandle" ∧ y.cls ≠ "java/lang/invoke/VarHandle" ∧ (parseMethodDescriptor y.desc).map (fun d => d.parameters.length) = some As.length) (hn : rm.frames + 1 ≤ fr ∧ 8 + (maxL + 11) + rm.locals ≤ lo ∧ k + rm.cells ≤ mc ∧ n + rm.slots ≤ ms ∧ jj_wt rest ≤ 8) (hfb : fb = true → jj_Fr X) (hτ : τ b = some (.inl ci)) (hc : jj_cl[ci]? = some (C, T, N)) (hst : st = As.reverse ++ jR (some b) :: rest) (kk : ∀ (v : Option jj_v) (τ' : jj_T) (I' : jj_I) (L' : jj_L) (r' : jj_R), P v τ' I' L' r' → jj_J X Q (k + rm.cells) (n + rm.slots) (pc + 3) ls (v.toList ++ rest) τ' I' L' r') (kx : ∀ (a : Nat) (τ' : jj_T) (I' : jj_I) (L' : jj_L) (r' : jj_R), PX a τ' I' L' r' → jj_JT X Q (k + rm.cells) (n + rm.slots) pc ls a τ' I' L' r') : jj_J X Q k n pc ls st τ I L r := by
  obtain ⟨⟨l, D, aC, ad, A, sa⟩, p, e, R, s, m, args, below, meth, c⟩ := X
  intro H locs la hl hV hS
  have hX' := hX
  obtain ⟨hx, hb, hml, hown, hts, hK, hTw, hFw, hSt, hlk, hRf, hRl, hRc, hRs⟩ := hX'
  obtain ⟨hn1, hn2, hn3, hn4, hn5⟩ := hn
  have hfl : rm.frames + 1 ≤ R.frames ∧ 8 + (maxL + 11) + rm.locals ≤ R.locals := ⟨by rw [hRf]; exact hn1, by rw [hRl]; exact hn2⟩
  have hcs : k + rm.cells ≤ R.cells ∧ n + rm.slots ≤ R.slots := ⟨by rw [hRc]; exact hn3, by rw [hRs]; exact hn4⟩
  have hw8 : 2 * (F0 m pc la (st.map (jj_c ad))).monitorRoom + ((rest.map (jj_c ad)).map fun v => v.category).sum ≤ 8 := lv_room (by rw [jj_wtc]; exact hn5)
  obtain ⟨q, h1, cell, q1, q2, q3, q4⟩ := hV.1 b _ hτ
  cases h1.symm.trans hc
  have hKn := hK.1 ci _ hc
  have hrecv : ∃ cellB : Cell, H[ad b]? = some cellB ∧ cellB.vm.isStatics = false ∧ s.vm.findClass C = some cellB.cls := ⟨cell, q1, by rw [q3]; rfl, by rw [q2]; exact hKn.2.1⟩
  refine jj_after (l := l) (D := D) (aC := aC) (ad := ad) (A := A) (sa := sa) (P := P) (PX := PX) (rest := rest) (vy_runVX (C := C) (bytes := bytes) (maxL := maxL) (ret := ret) (hh := hh) (As := As.map (jj_c ad)) ⟨hx, hb, hml, hown, hts⟩ hM (vy_cwVW As.length hts hw rfl rfl rfl ⟨hyC, hy⟩ hfl) ⟨jj_blind (l, D, aC, ad, A, sa) _ τ I L r (fun H => fb = true → ∀ q, H.size ≤ q → A q), hrecv, fun U hU hW => ⟨by rw [List.map_cons]; rfl, jj_pre hX hV hS hfb hU hW⟩⟩ rfl (by simp) (hl.1.trans hml) (by show st.map (jj_c ad) = _; rw [hst]; simp [List.map_append, List.map_reverse, jj_c, va_rf]) hw8 hdg hcs) hl hS kk kx
end JC2

section JE
variable {X : jj_X} {cc : ByteArray} {own : String} {nL fr lo mc ms : Nat} {k n pc : Nat} {ls : List (Nat × jj_v)} {τ : jj_T} {I : jj_I} {L : jj_L} {r : jj_R} {P : jj_P} {PX : jj_PX}
theorem jj_endw {l : Launch} {D : va_G} {aC : Nat → ClassId} {ad : Nat → Nat} {A : Nat → Prop} {sa : Nat → Nat} {p : Program} {e : Env} {R : Room} {s : State} {m : MethodId} {args : Array Value} {below : List Frame} {meth : Method} {c : Code} (hX : jj_ok ((l, D, aC, ad, A, sa), p, e, R, s, m, args, below, meth, c) cc own nL fr lo mc ms) {H : Heap} {locs : List Loc} (hV : jj_V D aC ad A τ I L r H) (hS : va_S A s.heap H locs) {t : State} (ht : t.heap = H) (hW : s.WarmedH t.vm) : jj_Wd (l, D, aC, ad, A, sa) τ I L r t ∧ va_F A s t :=
  ⟨(jj_pre hX hV hS (fb := false) (fun h => by cases h) ht hW).1, hS.F ht⟩

theorem jj_iret (hX : jj_ok X cc own nL fr lo mc ms) {x : Int32} (hdg : decode cc pc = .ok (.ireturn, 1)) (hr : jj_Ret X (some .int)) (hk : k ≤ mc ∧ n ≤ ms) (h : P (some (jI x)) τ I L r) : jj_J X (jj_End X P PX mc ms) k n pc ls [jI x] τ I L r := by
  obtain ⟨⟨l, D, aC, ad, A, sa⟩, p, e, R, s, m, args, below, meth, c⟩ := X
  intro H locs la hl hV hS
  refine W.widen hk.1 hk.2 ?_
  refine vy_ret ?_
  exact W.iret hX.1 hX.2.1 hr (fun t ht hW => ⟨(some (jI x)), τ, I, L, r, rfl, h, jj_endw hX hV hS ht hW⟩) hS.2.2 hdg hX.2.2.2.2.2.2.2.2.2.1
theorem jj_zret (hX : jj_ok X cc own nL fr lo mc ms) {x : Int32} (hdg : decode cc pc = .ok (.ireturn, 1)) (hr : jj_Ret X (some .boolean)) (hk : k ≤ mc ∧ n ≤ ms) (hz : x = 0 ∨ x = 1) (h : P (some (jI x)) τ I L r) : jj_J X (jj_End X P PX mc ms) k n pc ls [jI x] τ I L r := by
  obtain ⟨⟨l, D, aC, ad, A, sa⟩, p, e, R, s, m, args, below, meth, c⟩ := X
  intro H locs la hl hV hS
  refine W.widen hk.1 hk.2 ?_
  refine vy_ret ?_
  exact W.zret hX.1 hX.2.1 hr (jj_fitZ hz).1 (fun t ht hW => ⟨(some (jI x)), τ, I, L, r, rfl, h, jj_endw hX hV hS ht hW⟩) hS.2.2 hdg hX.2.2.2.2.2.2.2.2.2.1
theorem jj_lret (hX : jj_ok X cc own nL fr lo mc ms) {x : Int64} (hdg : decode cc pc = .ok (.lreturn, 1)) (hr : jj_Ret X (some .long)) (hk : k ≤ mc ∧ n ≤ ms) (h : P (some (jL x)) τ I L r) : jj_J X (jj_End X P PX mc ms) k n pc ls [jL x] τ I L r := by
  obtain ⟨⟨l, D, aC, ad, A, sa⟩, p, e, R, s, m, args, below, meth, c⟩ := X
  intro H locs la hl hV hS
  refine W.widen hk.1 hk.2 ?_
  refine vy_ret ?_
  exact W.lret hX.1 hX.2.1 hr (fun t ht hW => ⟨(some (jL x)), τ, I, L, r, rfl, h, jj_endw hX hV hS ht hW⟩) hS.2.2 hdg hX.2.2.2.2.2.2.2.2.2.1
theorem jj_vret (hX : jj_ok X cc own nL fr lo mc ms) (hdg : decode cc pc = .ok (.return_, 1)) (hr : jj_Ret X none) (hk : k ≤ mc ∧ n ≤ ms) (h : P none τ I L r) : jj_J X (jj_End X P PX mc ms) k n pc ls [] τ I L r := by
  obtain ⟨⟨l, D, aC, ad, A, sa⟩, p, e, R, s, m, args, below, meth, c⟩ := X
  intro H locs la hl hV hS
  refine W.widen hk.1 hk.2 ?_
  refine vy_ret ?_
  exact W.vret hX.1 hX.2.1 hr (fun t ht hW => ⟨none, τ, I, L, r, rfl, h, jj_endw hX hV hS ht hW⟩) hS.2.2 hdg hX.2.2.2.2.2.2.2.2.2.1
theorem jj_aret (hX : jj_ok X cc own nL fr lo mc ms) {x : Option Nat} {rt : FieldType} (hdg : decode cc pc = .ok (.areturn, 1)) (hr : jj_Ret X (some rt)) (hk : k ≤ mc ∧ n ≤ ms) (hrt : (∃ n, rt = .object n) ∨ ∃ t, rt = .array t) (h : P (some (jR x)) τ I L r) : jj_J X (jj_End X P PX mc ms) k n pc ls [jR x] τ I L r := by
  obtain ⟨⟨l, D, aC, ad, A, sa⟩, p, e, R, s, m, args, below, meth, c⟩ := X
  intro H locs la hl hV hS
  refine W.widen hk.1 hk.2 ?_
  refine vy_ret ?_
  exact W.aret hX.1 hX.2.1 hr hrt (by cases x; exact Or.inl rfl; exact Or.inr ⟨_, rfl⟩) (fun t ht hW => ⟨(some (jR x)), τ, I, L, r, rfl, h, jj_endw hX hV hS ht hW⟩) hS.2.2 hdg hX.2.2.2.2.2.2.2.2.2.1

theorem jj_out (hX : jj_ok X cc own nL fr lo mc ms) (hN : jj_NoH X) {a : Nat} (hk : k ≤ mc ∧ n ≤ ms) (h : PX a τ I L r) : jj_JT X (jj_End X P PX mc ms) k n pc ls a τ I L r := by
  obtain ⟨⟨l, D, aC, ad, A, sa⟩, p, e, R, s, m, args, below, meth, c⟩ := X
  intro H locs la rest hl hV hS hτ
  obtain ⟨q, h1, cell, q1, q2, q3, q4⟩ := hV.1 a _ hτ
  have hKn := hX.2.2.2.2.2.1.1 32 _ h1
  have hq1 : q.1 = "BranchCells$Failing" := by
    have h9 := h1.symm.trans jc_32
    cases h9
    rfl
  refine vy_out (E := "BranchCells$Failing") (ce := cell) (fun x hx => (hN x hx).elim) hX.2.2.2.2.2.2.2.2.2.1 q1 q3 (by rw [q2, ← hq1]; exact hKn.2.1) (fun t ht hA => ?_) hS.2.2 hk.1 hk.2
  exact ⟨rfl, a, τ, I, L, r, rfl, hτ, h, jj_endw hX hV hS ht hA⟩
end JE

