set_option maxRecDepth 100000
def jj_cp (r : jj_R) (a0 a1 sp dp n : Nat) : jj_R := fun b j => if b = a1 then va_cpy (r a0) (r a1) sp dp n j else r b j
theorem jj_cpo {r : jj_R} {a0 a1 sp dp n b : Nat} (h : b ≠ a1) : jj_cp r a0 a1 sp dp n b = r b := by
  funext j
  unfold jj_cp
  rw [if_neg h]
section JCP
variable {X : jj_X} {cc : ByteArray} {own : String} {nL fr lo mc ms : Nat} {Q : State → Prop} {k n pc : Nat} {ls : List (Nat × jj_v)} {st : List jj_v} {τ : jj_T} {I : jj_I} {L : jj_L} {r : jj_R}
theorem jj_copy (hX : jj_ok X cc own nL fr lo mc ms) {idx a0 a1 N0 N1 : Nat} {C : String} (sp dp nn : Nat) {isp idp inn : Int32} (hdg : decode cc pc = .ok (.invokestatic idx, 3)) (hw : Cond.methodLink own idx arraycopyName ∈ lw_all ∧ Cond.native arraycopyName ∈ lw_all ∧ Cond.static arraycopyName ∈ lw_all ∧ Cond.initialized "java/lang/System" ∈ lw_all) (h0 : τ a0 = some (.inr (3, N0))) (h1 : τ a1 = some (.inr (3, N1))) (hs : isp = nI sp) (hd : idp = nI dp) (hn : inn = nI nn) (hb : sp + nn ≤ N0 ∧ dp + nn ≤ N1 ∧ 0 < N1 ∧ N0 < 1000000 ∧ N1 < 1000000) (hel : ∀ i, i < nn → ∀ y, r a0 (sp + i) = some y → ∃ ci T NN, τ y = some (.inl ci) ∧ jj_cl[ci]? = some (C, T, NN)) (hc : Cond.castable C "java/lang/Object" ∈ jj_tw) (hfr : 1 ≤ fr ∧ jj_wt st + (nativeFrameWords "java/lang/System" "arraycopy" 5 + 11) ≤ lo) (kk : jj_J X Q k n (pc + 3) ls st τ I L (jj_cp r a0 a1 sp dp nn)) : jj_J X Q k n pc ls (jI inn :: jI idp :: jR (some a1) :: jI isp :: jR (some a0) :: st) τ I L r := by
  obtain ⟨⟨l, D, aC, ad, A, sa⟩, p, e, R, s, m, args, below, meth, c⟩ := X
  intro H locs la hl hV hS
  subst hs hd hn
  obtain ⟨hx, hbc, hml, hown, hts, hK, hTw, -, -, -, hRf, hRl, -, -⟩ := hX
  obtain ⟨w1, w2, w3, w4⟩ := hw
  obtain ⟨b1, b2, b3, b4, b5⟩ := hb
  have c1 : (nI sp).toNatClampNeg = sp := nI_clamp (by omega)
  have c2 : (nI dp).toNatClampNeg = dp := nI_clamp (by omega)
  have c3 : (nI nn).toNatClampNeg = nn := nI_clamp (by omega)
  have i1 : (nI sp).toInt = sp := nI_toInt (by omega)
  have i2 : (nI dp).toInt = dp := nI_toInt (by omega)
  have i3 : (nI nn).toInt = nn := nI_toInt (by omega)
  obtain ⟨-, g0⟩ := hV.1 a0 _ h0
  obtain ⟨-, g1⟩ := hV.1 a1 _ h1
  have hA1 := hV.2.2 a1 _ h1 (fun z => by cases z; omega)
  obtain ⟨hAr, hRA⟩ := hK.2 3 (by decide)
  obtain ⟨kA, comp, r1, r2, r3, -⟩ := hRA
  obtain ⟨-, k0, hk0, cm0, hkk0⟩ := hAr N0 (fun j => jj_fv (jj_ak 3) ad (I a0 j) (L a0 j) (r a0 j))
  obtain ⟨-, k1, hk1, cm1, hkk1⟩ := hAr N1 (fun j => jj_fv (jj_ak 3) ad (I a1 j) (L a1 j) (r a1 j))
  have hstk : ((st.map (jj_c ad)).map fun v => v.category).sum = jj_wt st := jj_wtc ad st
  intro T hT Y
  obtain ⟨vm', Y', step⟩ := Y.arraycopy hx hown (hts _ w1) (hts _ w2) (hts _ w3) (hts _ w4) (src := ad a0) (dst := ad a1) (cs := arrV (aC 3) N0 (fun j => jj_fv (jj_ak 3) ad (I a0 j) (L a0 j) (r a0 j))) (cd := arrV (aC 3) N1 (fun j => jj_fv (jj_ak 3) ad (I a1 j) (L a1 j) (r a1 j))) (srcPos := nI sp) (destPos := nI dp) (n := nI nn) (by rw [hT]; exact g0) (by rw [hT]; exact g1)
    (fun _ h => by cases h) (fun _ h => by cases h) (fun h => by cases h) (fun h => by cases h) hk0 hk1 hkk0 hkk1 rfl (nI_pos (by omega)) (nI_pos (by omega)) (nI_pos (by omega))
    (by rw [i1, i3, arrV_size]; omega) (by rw [i2, i3, arrV_size]; omega)
    (fun vm₁ hal i hi => by
      have hi' : i < nn := by rw [c3] at hi; exact hi
      have e : (arrV (aC 3) N0 (fun j => jj_fv (jj_ak 3) ad (I a0 j) (L a0 j) (r a0 j))).slots.getD ((nI sp).toNatClampNeg + i) .null = va_rf ((r a0 (sp + i)).map ad) := by
        rw [c1, Array.getD_eq_getD_getElem?, arrV_read _ _ (by omega)]
        rfl
      rw [e]
      cases hy : r a0 (sp + i) with
      | none => exact ⟨rfl, trivial⟩
      | some y =>
        obtain ⟨ci, TT, NN, y1, y2⟩ := hel i hi' y hy
        obtain ⟨q, z1, cellV, z2, z3, z4, -⟩ := hV.1 y _ y1
        cases z1.symm.trans y2
        have hKn := hK.1 ci _ y2
        obtain ⟨kC, hkC, -⟩ := hKn.2.2
        obtain ⟨cc0, tt0, f1, f2, f3⟩ := Cond.castable_spec (va_Nw.use (A := args) rfl (hTw _ hc))
        cases f1.symm.trans hKn.2.1
        cases f2.symm.trans r3
        cases hk1.symm.trans r1
        cases hkk1.symm.trans r2
        obtain ⟨kE, hkE, -⟩ := Vm.findClass_spec r3
        obtain ⟨kC', hkC', -⟩ := hal.2.2 _ _ hkC
        obtain ⟨kE', hkE', -⟩ := hal.2.2 _ _ hkE
        refine ⟨rfl, cellV, (show T.heap[ad y]? = some cellV by rw [hT]; exact z2), (fun q h => by rw [z4] at h; cases h), ⟨kC', by rw [z3]; exact hkC'⟩, ?_, ?_⟩
        · exact ⟨kE', hkE'⟩
        · show vm₁.assignable _ _ = true
          rw [hal.assignable, z3]
          exact f3)
    (g := F0 m pc la (.int (nI nn) :: .int (nI dp) :: .ref (ad a1) :: .int (nI sp) :: .ref (ad a0) :: st.map (jj_c ad))) rfl (by show la.size = _; exact hl.1) (rest := st.map (jj_c ad)) rfl (by rw [hbc]; exact hdg) (by rw [hRf]; exact hfr.1) (by show 2 * 0 + _ + _ ≤ R.locals; rw [hRl, hstk]; omega)
  have e1 : copied (arrV (aC 3) N0 (fun j => jj_fv (jj_ak 3) ad (I a0 j) (L a0 j) (r a0 j))) (arrV (aC 3) N1 (fun j => jj_fv (jj_ak 3) ad (I a1 j) (L a1 j) (r a1 j))) (nI sp) (nI dp) (nI nn) = arrV (aC 3) N1 (fun j => jj_fv (jj_ak 3) ad (I a1 j) (L a1 j) (jj_cp r a0 a1 sp dp nn a1 j)) := by
    have h9 := va_copied (fun z : Option Nat => va_rf (z.map ad)) (aC 3) (aC 3) (n0 := N0) (n1 := N1) (sp := sp) (dp := dp) (n := nn) (r a0) (r a1) b1
    unfold copied
    rw [c1, c2, c3]
    refine h9.trans ?_
    congr 1
    funext j
    show va_rf ((va_cpy (r a0) (r a1) sp dp nn j).map ad) = va_rf ((jj_cp r a0 a1 sp dp nn a1 j).map ad)
    unfold jj_cp
    rw [if_pos rfl]
  rw [e1] at Y' step
  have hlt : ad a1 < H.size := (Array.getElem?_eq_some_iff.mp g1).1
  have hheap : ((T.setVm vm').setCell (ad a1) (arrV (aC 3) N1 (fun j => jj_fv (jj_ak 3) ad (I a1 j) (L a1 j) (jj_cp r a0 a1 sp dp nn a1 j)))).heap = H.setIfInBounds (ad a1) (arrV (aC 3) N1 (fun j => jj_fv (jj_ak 3) ad (I a1 j) (L a1 j) (jj_cp r a0 a1 sp dp nn a1 j))) := by rw [← hT]; rfl
  have oq : ∀ q : Nat, q ≠ ad a1 → (H.setIfInBounds (ad a1) (arrV (aC 3) N1 (fun j => jj_fv (jj_ak 3) ad (I a1 j) (L a1 j) (jj_cp r a0 a1 sp dp nn a1 j))))[q]? = H[q]? := fun q hq => by simp [Array.getElem?_setIfInBounds, Ne.symm hq]
  obtain ⟨t2, a2, b2'⟩ := kk _ _ la hl (hV.put (I' := I) (L' := L) (r' := jj_cp r a0 a1 sp dp nn) (H' := H.setIfInBounds (ad a1) _) h1 ⟨(show (3 : Nat) < 6 by decide), by simp [Array.getElem?_setIfInBounds, hlt]⟩ oq (fun _ _ => rfl) (fun _ _ => rfl) (fun b hb => jj_cpo hb)) ⟨by simp; exact hS.1, fun q q1 q2 => by
      rw [oq q (fun z => q2 (by rw [z]; exact hA1))]
      exact hS.2.1 q q1 q2, fun q hq => by
      rcases List.mem_append.mp hq with h | h
      · exact hS.2.2 q h
      · obtain ⟨z, -, hz⟩ := List.mem_map.mp h
        rw [← hz]
        exact hA1⟩ _ hheap Y'
  exact ⟨t2, step t2 a2, b2'⟩
theorem jj_ldcM (hX : jj_ok X cc own nL fr lo mc ms) {idx : Nat} (v : Nat) (hI : X.1.2.2.2.1 v = X.1.2.2.2.2.2 4) (hdg : decode cc pc = .ok (.ldc idx, 2)) (hw : Cond.classLink own idx "[Ljava/lang/Object;" ∈ lw_all) (kk : jj_J X Q k n (pc + 2) ls (jR (some v) :: st) τ I L r) : jj_J X Q k n pc ls st τ I L r := by
  obtain ⟨⟨l, D, aC, ad, A, sa⟩, p, e, R, s, m, args, below, meth, c⟩ := X
  intro H locs la hl hV hS
  have hI : ad v = sa 4 := hI
  refine va_ldcM hX.1 hX.2.1 hX.2.2.2.1 (hX.2.2.2.2.1 _ hw) hX.2.2.2.2.2.2.2.2.1.2.2.2.2.2.2 hdg ?_
  rw [← hI]
  exact kk H locs la hl hV hS
theorem jj_getC (hX : jj_ok X cc own nL fr lo mc ms) {idx a N : Nat} (v : Nat) (hI : X.1.2.2.2.1 v = X.1.2.2.2.2.2 4) (hdg : decode cc pc = .ok (.invokevirtual idx, 3)) (hτ : τ a = some (.inr (3, N))) (hw : Cond.methodLink own idx ⟨"java/lang/Object", "getClass", "()Ljava/lang/Class;"⟩ ∈ lw_all ∧ Cond.selects "[Ljava/lang/Object;" ⟨"java/lang/Object", "getClass", "()Ljava/lang/Class;"⟩ ⟨"java/lang/Object", "getClass", "()Ljava/lang/Class;"⟩ ∈ lw_all ∧ Cond.instanceMethod ⟨"java/lang/Object", "getClass", "()Ljava/lang/Class;"⟩ ∈ lw_all ∧ Cond.native ⟨"java/lang/Object", "getClass", "()Ljava/lang/Class;"⟩ ∈ lw_all) (hd : Cond.declares ⟨"java/lang/Object", "getClass", "()Ljava/lang/Class;"⟩ ∈ jj_tw) (hfr : 1 ≤ fr ∧ jj_wt st + 14 ≤ lo) (kk : jj_J X Q k n (pc + 3) ls (jR (some v) :: st) τ I L r) : jj_J X Q k n pc ls (jR (some a) :: st) τ I L r := by
  obtain ⟨⟨l, D, aC, ad, A, sa⟩, p, e, R, s, m, args, below, meth, c⟩ := X
  intro H locs la hl hV hS
  have hI : ad v = sa 4 := hI
  obtain ⟨hx, hbc, hml, hown, hts, hK, hTw, -, hSt, -, hRf, hRl, -, -⟩ := hX
  obtain ⟨w1, w2, w3, w4⟩ := hw
  obtain ⟨-, g0⟩ := hV.1 a _ hτ
  have hRA := (hK.2 3 (by decide)).2
  have hstk : ((st.map (jj_c ad)).map fun v => v.category).sum = jj_wt st := jj_wtc ad st
  obtain ⟨-, -, -, -, -, hnm⟩ := hRA
  refine va_getC (C := "[Ljava/lang/Object;") hx hbc hl.1.symm hown (hts _ w1) (va_Nw.use rfl (hTw _ hd)) (hts _ w2) (hts _ w3) (hts _ w4) hSt.2.2.2.2.2.2 ⟨_, g0, rfl, ?_⟩ (by rw [hRf]; exact hfr.1) (by rw [hRl, hstk]; exact hfr.2) hdg ?_
  · have e9 : "[" ++ (Jvm.ClassFile.FieldType.object "java/lang/Object").toString = "[Ljava/lang/Object;" := rfl
    have hnm : s.vm.findClass ("[" ++ (Jvm.ClassFile.FieldType.object "java/lang/Object").toString) = some (aC 3) := hnm
    rw [e9] at hnm
    exact hnm
  · rw [← hI]
    exact kk H locs la hl hV hS
end JCP
section KCP
variable {X : jj_X} {o : jj_T} {cc : ByteArray} {own : String} {nL fr lo mc ms : Nat} {Q : State → Prop} {k n pc : Nat} {ls : List (Nat × jj_v)} {st : List jj_v} {τ : jj_T} {I : jj_I} {L : jj_L} {r : jj_R}
theorem kk_copy (hX : kk_ok X cc own nL fr lo mc ms) {idx a0 a1 N0 N1 : Nat} {C : String} (sp dp nn : Nat) {isp idp inn : Int32} (hdg : decode cc pc = .ok (.invokestatic idx, 3)) (hw : Cond.methodLink own idx arraycopyName ∈ lw_all ∧ Cond.native arraycopyName ∈ lw_all ∧ Cond.static arraycopyName ∈ lw_all ∧ Cond.initialized "java/lang/System" ∈ lw_all) (h0 : τ a0 = some (.inr (3, N0))) (h1 : τ a1 = some (.inr (3, N1))) (hs : isp = nI sp) (hd : idp = nI dp) (hn : inn = nI nn) (hb : sp + nn ≤ N0 ∧ dp + nn ≤ N1 ∧ 0 < N1 ∧ N0 < 1000000 ∧ N1 < 1000000) (hel : ∀ i, i < nn → ∀ y, r a0 (sp + i) = some y → ∃ ci T NN, τ y = some (.inl ci) ∧ jj_cl[ci]? = some (C, T, NN)) (hc : Cond.castable C "java/lang/Object" ∈ jj_tw) (hfr : 1 ≤ fr ∧ jj_wt st + (nativeFrameWords "java/lang/System" "arraycopy" 5 + 11) ≤ lo) (kk : kk_J X o Q k n (pc + 3) ls st τ I L (jj_cp r a0 a1 sp dp nn)) : kk_J X o Q k n pc ls (jI inn :: jI idp :: jR (some a1) :: jI isp :: jR (some a0) :: st) τ I L r := by
  obtain ⟨⟨l, D, aC, ad0, A, sa⟩, p, e, R, s, m, args, below, meth, c⟩ := X
  intro ad ha9 hW hls hst
  refine jj_copy (X := ((l, D, aC, ad, A, sa), p, e, R, s, m, args, below, meth, c)) hX.1 sp dp nn hdg hw h0 h1 hs hd hn hb hel hc hfr (kk ad ha9 ?_ hls hst.2.2.2.2.2)
  refine ⟨hW.1, hW.2.1, hW.2.2.1, hW.2.2.2.1, fun b j y hb hy => ?_, hW.2.2.2.2.2⟩
  unfold jj_cp at hy
  split at hy
  · unfold va_cpy at hy
    split at hy
    · exact hW.2.2.2.2.1 a0 _ y (by rw [h0]; exact fun z => by cases z) hy
    · exact hW.2.2.2.2.1 a1 _ y (by rw [h1]; exact fun z => by cases z) hy
  · exact hW.2.2.2.2.1 b j y hb hy
theorem kk_ldcM (hX : kk_ok X cc own nL fr lo mc ms) {idx : Nat} (hdg : decode cc pc = .ok (.ldc idx, 2)) (hw : Cond.classLink own idx "[Ljava/lang/Object;" ∈ lw_all) (kk : kk_J X o Q k n (pc + 2) ls (jR (some 4) :: st) τ I L r) : kk_J X o Q k n pc ls st τ I L r := by
  obtain ⟨⟨l, D, aC, ad0, A, sa⟩, p, e, R, s, m, args, below, meth, c⟩ := X
  intro ad ha9 hW hls hst
  exact jj_ldcM (X := ((l, D, aC, ad, A, sa), p, e, R, s, m, args, below, meth, c)) hX.1 4 (hW.1 4 (by decide)) hdg hw (kk ad ha9 hW hls ⟨Or.inr ⟨by decide, by decide⟩, hst⟩)
theorem kk_getC (hX : kk_ok X cc own nL fr lo mc ms) {idx a N : Nat} (hdg : decode cc pc = .ok (.invokevirtual idx, 3)) (hτ : τ a = some (.inr (3, N))) (hw : Cond.methodLink own idx ⟨"java/lang/Object", "getClass", "()Ljava/lang/Class;"⟩ ∈ lw_all ∧ Cond.selects "[Ljava/lang/Object;" ⟨"java/lang/Object", "getClass", "()Ljava/lang/Class;"⟩ ⟨"java/lang/Object", "getClass", "()Ljava/lang/Class;"⟩ ∈ lw_all ∧ Cond.instanceMethod ⟨"java/lang/Object", "getClass", "()Ljava/lang/Class;"⟩ ∈ lw_all ∧ Cond.native ⟨"java/lang/Object", "getClass", "()Ljava/lang/Class;"⟩ ∈ lw_all) (hd : Cond.declares ⟨"java/lang/Object", "getClass", "()Ljava/lang/Class;"⟩ ∈ jj_tw) (hfr : 1 ≤ fr ∧ jj_wt st + 14 ≤ lo) (kk : kk_J X o Q k n (pc + 3) ls (jR (some 4) :: st) τ I L r) : kk_J X o Q k n pc ls (jR (some a) :: st) τ I L r := by
  obtain ⟨⟨l, D, aC, ad0, A, sa⟩, p, e, R, s, m, args, below, meth, c⟩ := X
  intro ad ha9 hW hls hst
  exact jj_getC (X := ((l, D, aC, ad, A, sa), p, e, R, s, m, args, below, meth, c)) hX.1 4 (hW.1 4 (by decide)) hdg hτ hw hd hfr (kk ad ha9 hW hls ⟨Or.inr ⟨by decide, by decide⟩, hst.2⟩)
end KCP

/-- .. of a method of a class that has natives beside it, but none of its own -/
theorem kk_ofF {l : Launch} {y : MethodName} {ws ws' : List Cond} {rm : Room} {Pc : Array Value → State → Prop} {Qc : Array Value → State → Outcome → State → Prop} {XC : Addr → String → State → State → Prop} {mc ms : Nat} {free : Addr → Prop} {cc : ByteArray} {maxL : Nat} {ret : Option FieldType}
    (hy : plainFor y = true) (hw : ws = Cond.code y cc maxL ret :: ws')
    (body : ∀ p e s m args below meth c s₁, BodyLoose p l y (headSpec ws rm) cc maxL ret e s m args below meth c s₁ → c.maxLocals = maxL → (∀ x ∈ c.exceptionTable.toList, False) → Pc args s →
      W p l e (headSpec ws rm).room s m args below meth c s.heap [] 0 0 (vy_MQ below Qc XC args s mc ms free) (entryFrame m args maxL)) : vy_Met l y ws rm Pc Qc XC mc ms free := by
  have hmem : Cond.code y cc maxL ret ∈ ws := by rw [hw]; exact List.mem_cons_self
  refine MetFree.of_bodySF (code := cc) (maxLocals := maxL) (ret := ret) hy (fun args s m h hn => ?_) (fun p e s m args below meth c s₁ B hml hP _ => ?_)
  · obtain ⟨meth, c, h1, h2, h3, h4, h5, h6, -, -⟩ := Cond.code_spec hn (atoms_spec (ws := ws) h _ hmem)
    exact ⟨meth, c, h1, h2, h3, h4, h5, h6⟩
  · have h0 : s₁.heap = s.heap := by rw [B.state]; rfl
    have ht : ∀ x ∈ c.exceptionTable.toList, False := fun x hx => by
      obtain ⟨m9, c9, g1, g2, -, -, -, -, g7, -⟩ := Cond.code_spec B.named (atoms_spec (ws := ws) B.pre _ hmem)
      cases Option.some.inj (g1.symm.trans B.method)
      cases Option.some.inj (g2.symm.trans (Stand.of_body B).code)
      rw [Array.isEmpty_iff.mp g7] at hx
      cases hx
    obtain ⟨t, a1, oc, b1, b2, b3⟩ := body p e s m args below meth c s₁ B hml ht hP s₁ h0 (Stand.of_body B)
    exact ⟨t, oc, a1, b1, b2, b3⟩
theorem kk_introF {G : jj_G} {y : MethodName} {cc : ByteArray} {nL : Nat} {ret : Option FieldType} {rm : Room} {As : List jj_v} {fb : Bool} {τ : jj_T} {I : jj_I} {L : jj_L} {r : jj_R} {P : jj_P} {PX : jj_PX} (own : String) (hy : plainFor y = true) (hown : y.cls = own) (hlen : jj_wt As ≤ nL)
    (body : ∀ X : jj_X, X.1.1 = G.1 → kk_ok X cc own nL rm.frames rm.locals rm.cells rm.slots → jj_Ret X ret → jj_NoH X → (y.name = "<init>" → jj_Ctor X) → (fb = true → jj_Fr X) → (∃ ad, X.1 = kk_G G ad) → kk_J X τ (kk_End X τ P PX rm.cells rm.slots) 0 0 0 (jj_as 0 As) [] τ I L r) : kk_M G y (ws_ y cc nL ret) rm As fb τ I L r P PX := by
  obtain ⟨l, D, aC, ad0, A, sa⟩ := G
  intro ad hW hAs
  refine kk_ofF (cc := cc) (maxL := nL) (ret := ret) hy rfl ?_
  intro p e s m args below meth c s₁ B hml hN hv
  obtain ⟨hargs, ⟨hV, hK, hTw, hFw, hSt⟩, hfr, hsz⟩ := hv
  have hts := atoms_spec (ws := ws_ y cc nL ret) B.pre
  have hts : ∀ w ∈ lw_all, w.before args s = true := fun w h => hts w (List.mem_cons_of_mem _ h)
  have hw : s.vm.findClass own = some m.cls := by rw [← hown]; exact findClass_of_methodNamed B.named
  have k := body ((l, D, aC, ad, A, sa), p, e, (headSpec (ws_ y cc nL ret) rm).room, s, m, args, below, meth, c) rfl ⟨⟨B.exec, B.bytes, hml, hw, hts, hK, hTw, hFw, hSt, B.notSynchronized, rfl, rfl, rfl, rfl⟩, hsz⟩ B.returns hN (fun h => (name_of_methodNamed B.named B.method).1.trans h) hfr ⟨ad, rfl⟩
  have hl := lv_entry (As.map (jj_c ad)) (n := nL) (by rw [jj_sll]; exact hlen)
  rw [jj_mas] at hl
  rw [hargs, lg_entry_eq]
  have hl2 : lv_has ((lg_sl (As.map (jj_c ad)) ++ List.replicate (nL - (lg_sl (As.map (jj_c ad))).length) Slot.unset).toArray) c.maxLocals (jj_ml ad (jj_as 0 As)) := by rw [hml]; exact hl
  have hls : ∀ (As : List jj_v) (i : Nat), kk_vs τ As → kk_ls τ (jj_as i As) := by
    intro As
    induction As with
    | nil => intro i _; trivial
    | cons u t ih => intro i h; exact ⟨h.1, ih _ h.2⟩
  rw [hargs] at k
  exact k ad (fun _ _ => rfl) hW (hls As 0 hAs) trivial s.heap [] _ hl2 hV va_S.rf
