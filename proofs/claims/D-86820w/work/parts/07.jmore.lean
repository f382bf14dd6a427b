set_option maxRecDepth 100000
theorem jj_sll (ad : Nat → Nat) : ∀ st : List jj_v, (lg_sl (st.map (jj_c ad))).length = jj_wt st
  | [] => rfl
  | v :: t => by
    have h := jj_sll ad t
    unfold lg_sl at h ⊢
    rw [List.map_cons, List.flatMap_cons, List.length_append, h]
    show _ = (if jj_w2 v then 2 else 1) + jj_wt t
    congr 1
    rcases v with x | x | x
    · rfl
    · rfl
    · cases x <;> rfl
/-- a contract out of the walk of the body -/
theorem jj_intro {G : jj_G} {y : MethodName} {cc : ByteArray} {nL : Nat} {ret : Option FieldType} {rm : Room} {As : List jj_v} {fb : Bool} {τ : jj_T} {I : jj_I} {L : jj_L} {r : jj_R} {P : jj_P} {PX : jj_PX} (own : String) (hy : plainName y.cls = true) (hown : y.cls = own) (hlen : jj_wt As ≤ nL)
    (body : ∀ X : jj_X, X.1 = G → jj_ok X cc own nL rm.frames rm.locals rm.cells rm.slots → jj_Ret X ret → jj_NoH X → (y.name = "<init>" → jj_Ctor X) → (fb = true → jj_Fr X) → jj_J X (jj_End X P PX rm.cells rm.slots) 0 0 0 (jj_as 0 As) [] τ I L r) : jj_M G y (ws_ y cc nL ret) rm As fb τ I L r P PX := by
  obtain ⟨l, D, aC, ad, A, sa⟩ := G
  refine vy_ofW (cc := cc) (maxL := nL) (ret := ret) hy rfl ?_
  intro p e s m args below meth c s₁ B hml hN hv
  obtain ⟨hargs, ⟨hV, hK, hTw, hFw, hSt⟩, hfr⟩ := hv
  have hts := atoms_spec (ws := ws_ y cc nL ret) B.pre
  have hts : ∀ w ∈ lw_all, w.before args s = true := fun w h => hts w (List.mem_cons_of_mem _ h)
  have hw : s.vm.findClass own = some m.cls := by rw [← hown]; exact findClass_of_methodNamed B.named
  have k := body ((l, D, aC, ad, A, sa), p, e, (headSpec (ws_ y cc nL ret) rm).room, s, m, args, below, meth, c) rfl ⟨B.exec, B.bytes, hml, hw, hts, hK, hTw, hFw, hSt, B.notSynchronized, rfl, rfl, rfl, rfl⟩ B.returns hN (fun h => (name_of_methodNamed B.named B.method).1.trans h) hfr
  have hl := lv_entry (As.map (jj_c ad)) (n := nL) (by rw [jj_sll]; exact hlen)
  rw [jj_mas] at hl
  rw [hargs, lg_entry_eq]
  have hl2 : lv_has ((lg_sl (As.map (jj_c ad)) ++ List.replicate (nL - (lg_sl (As.map (jj_c ad))).length) Slot.unset).toArray) c.maxLocals (jj_ml ad (jj_as 0 As)) := by rw [hml]; exact hl
  rw [hargs] at k
  exact k s.heap [] _ hl2 hV va_S.rf
/-- .. of a method with a table of its own -/
def jj_Tbl (X : jj_X) (tb : List ExceptionTableEntry) : Prop := match X with
  | (_, _, _, _, _, _, _, _, _, c) => c.exceptionTable.toList = tb
theorem jj_introW {G : jj_G} {y : MethodName} {cc : ByteArray} {nL : Nat} {ret : Option FieldType} {hh : List (Nat × Nat × Nat × Nat)} {rm : Room} {As : List jj_v} {fb : Bool} {τ : jj_T} {I : jj_I} {L : jj_L} {r : jj_R} {P : jj_P} {PX : jj_PX} (own : String) (hy : plainName y.cls = true) (hown : y.cls = own) (hlen : jj_wt As ≤ nL)
    (body : ∀ X : jj_X, X.1 = G → jj_ok X cc own nL rm.frames rm.locals rm.cells rm.slots → jj_Ret X ret → jj_Tbl X (tableOf hh) → (fb = true → jj_Fr X) → jj_J X (jj_End X P PX rm.cells rm.slots) 0 0 0 (jj_as 0 As) [] τ I L r) : jj_M G y (wsW_ y cc nL ret hh) rm As fb τ I L r P PX := by
  obtain ⟨l, D, aC, ad, A, sa⟩ := G
  refine vy_ofWH (cc := cc) (maxL := nL) (ret := ret) hy rfl ?_
  intro p e s m args below meth c s₁ B hml hv
  obtain ⟨hargs, ⟨hV, hK, hTw, hFw, hSt⟩, hfr⟩ := hv
  have hts0 := atoms_spec (ws := wsW_ y cc nL ret hh) B.pre
  have hts : ∀ w ∈ lw_all, w.before args s = true := fun w h => hts0 w (List.mem_cons_of_mem _ h)
  have hw : s.vm.findClass own = some m.cls := by rw [← hown]; exact findClass_of_methodNamed B.named
  have htb : c.exceptionTable.toList = tableOf hh := vy_table (x := y) B (hts0 _ List.mem_cons_self)
  have k := body ((l, D, aC, ad, A, sa), p, e, (headSpec (wsW_ y cc nL ret hh) rm).room, s, m, args, below, meth, c) rfl ⟨B.exec, B.bytes, hml, hw, hts, hK, hTw, hFw, hSt, B.notSynchronized, rfl, rfl, rfl, rfl⟩ B.returns htb hfr
  have hl := lv_entry (As.map (jj_c ad)) (n := nL) (by rw [jj_sll]; exact hlen)
  rw [jj_mas] at hl
  rw [hargs, lg_entry_eq]
  have hl2 : lv_has ((lg_sl (As.map (jj_c ad)) ++ List.replicate (nL - (lg_sl (As.map (jj_c ad))).length) Slot.unset).toArray) c.maxLocals (jj_ml ad (jj_as 0 As)) := by rw [hml]; exact hl
  rw [hargs] at k
  exact k s.heap [] _ hl2 hV va_S.rf
section JX
variable {X : jj_X} {cc : ByteArray} {own : String} {nL fr lo mc ms : Nat} {Q : State → Prop} {k n pc : Nat} {ls : List (Nat × jj_v)} {st rest : List jj_v} {τ : jj_T} {I : jj_I} {L : jj_L} {r : jj_R}
theorem jj_objInit (hX : jj_ok X cc own nL fr lo mc ms) {idx a : Nat} (hdg : decode cc pc = .ok (.invokespecial idx, 3)) (h1 : Cond.methodLink own idx Lib.objectInit ∈ lw_all) (h2 : Cond.instanceMethod Lib.objectInit ∈ lw_all) (h3 : Cond.code Lib.objectInit ⟨#[0xb1]⟩ 1 none ∈ lw_all) (hn : 1 ≤ fr ∧ jj_wt st + 12 ≤ lo) (kk : jj_J X Q k n (pc + 3) ls st τ I L r) : jj_J X Q k n pc ls (jR (some a) :: st) τ I L r := by
  obtain ⟨⟨l, D, aC, ad, A, sa⟩, p, e, R, s, m, args, below, meth, c⟩ := X
  intro H locs la hl hV hS
  obtain ⟨hx, hb, -, hown, hts, -, -, -, -, -, hRf, hRl, -, -⟩ := hX
  exact W.objInit hx hb hown (hts _ h1) (hts _ h2) (hts _ h3) rfl hl.1 rfl hdg (by rw [hRf]; exact hn.1) (by show 2 * 0 + _ + 12 ≤ R.locals; rw [hRl, jj_wtc]; omega) (kk H locs la hl hV hS)
theorem jj_catch (hX : jj_ok X cc own nL fr lo mc ms) {x : ExceptionTableEntry} {a : Nat} (hT : jj_Tbl X [x]) (hx : covers x pc = true) (h0 : x.catchType ≠ 0) (h1 : Cond.classLink own x.catchType "BranchCells$Failing" ∈ lw_all) (h2 : Cond.castable "BranchCells$Failing" "BranchCells$Failing" ∈ jj_tw) (kk : τ a = some (.inl 32) → jj_J X Q k n x.handlerPc ls [jR (some a)] τ I L r) : jj_JT X Q k n pc ls a τ I L r := by
  obtain ⟨⟨l, D, aC, ad, A, sa⟩, p, e, R, s, m, args, below, meth, c⟩ := X
  intro H locs la rest hl hV hS hτ
  obtain ⟨q, hq, cell, q1, q2, q3, q4⟩ := hV.1 a _ hτ
  have hKn := hX.2.2.2.2.2.1.1 32 _ hq
  have hq1 : q.1 = "BranchCells$Failing" := by
    have h9 := hq.symm.trans jc_32
    cases h9
    rfl
  exact vy_catch (E := "BranchCells$Failing") (name := "BranchCells$Failing") hX.2.2.2.1 [] x [] hT (fun z hz => by cases hz) hx h0 (hX.2.2.2.2.1 _ h1) (va_Nw.use rfl (hX.2.2.2.2.2.2.1 _ h2)) q1 q3 (by rw [q2, ← hq1]; exact hKn.2.1) (kk hτ H locs la hl hV hS)
end JX
/-! posts that say it all -/
def jj_eq (v : Option jj_v) (τ : jj_T) (I : jj_I) (L : jj_L) (r : jj_R) : jj_P := fun v' τ' I' L' r' => v' = v ∧ τ' = τ ∧ I' = I ∧ L' = L ∧ r' = r
def jj_no : jj_PX := fun _ _ _ _ _ => False
theorem jj_kno {Q : Nat → jj_T → jj_I → jj_L → jj_R → Prop} : ∀ (a : Nat) (τ : jj_T) (I : jj_I) (L : jj_L) (r : jj_R), jj_no a τ I L r → Q a τ I L r := fun _ _ _ _ _ h => h.elim
theorem jj_keq {v : Option jj_v} {τ : jj_T} {I : jj_I} {L : jj_L} {r : jj_R} {Q : Option jj_v → jj_T → jj_I → jj_L → jj_R → Prop} (h : Q v τ I L r) : ∀ (v' : Option jj_v) (τ' : jj_T) (I' : jj_I) (L' : jj_L) (r' : jj_R), jj_eq v τ I L r v' τ' I' L' r' → Q v' τ' I' L' r' := by
  rintro v' τ' I' L' r' ⟨rfl, rfl, rfl, rfl, rfl⟩
  exact h
/-! whole numbers in 32 bits -/
theorem ix_mul {x y : Int32} {a b : Nat} (hx : x = nI a) (hy : y = nI b) : x * y = nI (a * b) := by subst hx hy; exact pk_mul a b
theorem ix_add {x y : Int32} {a b : Nat} (hx : x = nI a) (hy : y = nI b) : x + y = nI (a + b) := by subst hx hy; exact nI_add a b
theorem ix_sub {x y : Int32} {a b : Nat} (hx : x = nI a) (hy : y = nI b) (h : b ≤ a) : x - y = nI (a - b) := by subst hx hy; exact pk_sub h
def nv (x : Int32) : Nat := x.toNatClampNeg
theorem nv_nI {n : Nat} (h : n < 2147483648) : nv (nI n) = n := nI_clamp h
