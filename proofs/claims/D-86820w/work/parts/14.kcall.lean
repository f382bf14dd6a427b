set_option maxRecDepth 100000
def kk_Qc (G : jj_G) (ad : Nat → Nat) (o : jj_T) (P : jj_P) : Array Value → State → Outcome → State → Prop := fun a st oc t => ∃ ad' : Nat → Nat, (∀ v, kk_r o v → ad' v = ad v) ∧ jj_Qc (kk_G G ad') (fun v τ I L r => P v τ I L r ∧ kk_W G.2.2.2.2.2 ad' o τ r ∧ kk_vs τ v.toList) a st oc t
def kk_Xc (G : jj_G) (ad : Nat → Nat) (o : jj_T) (PX : jj_PX) : Addr → String → State → State → Prop := fun q E st t => ∃ ad' : Nat → Nat, (∀ v, kk_r o v → ad' v = ad v) ∧ jj_Xc (kk_G G ad') (fun a τ I L r => PX a τ I L r ∧ kk_W G.2.2.2.2.2 ad' o τ r) q E st t
/-- a contract in the K layer -/
def kk_M (G : jj_G) (y : MethodName) (ws : List Cond) (rm : Room) (As : List jj_v) (fr : Bool) (τ : jj_T) (I : jj_I) (L : jj_L) (r : jj_R) (P : jj_P) (PX : jj_PX) : Prop :=
  ∀ ad : Nat → Nat, kk_W G.2.2.2.2.2 ad τ τ r → kk_vs τ As → vy_Met G.1 y ws rm (va_Pc (As.map (jj_c ad)) (fun U => jj_Wd (kk_G G ad) τ I L r U ∧ ((fr = true → ∀ q, U.heap.size ≤ q → G.2.2.2.2.1 q) ∧ ∀ i, i ≤ 6 → G.2.2.2.2.2 i < U.heap.size))) (kk_Qc G ad τ P) (kk_Xc G ad τ PX) rm.cells rm.slots G.2.2.2.2.1
def kk_End (X : jj_X) (o : jj_T) (P : jj_P) (PX : jj_PX) (mc ms : Nat) : State → Prop :=
  match X with
  | (G, _, _, _, s, _, args, below, _, _) => vy_MQ below (kk_Qc G G.2.2.2.1 o P) (kk_Xc G G.2.2.2.1 o PX) args s mc ms G.2.2.2.2.1
theorem kk_W.self {sa ad : Nat → Nat} {o τ : jj_T} {r : jj_R} (h : kk_W sa ad o τ r) : kk_W sa ad τ τ r := ⟨h.1, h.2.1, h.2.2.1, fun _ _ => rfl, h.2.2.2.2.1, h.2.2.2.2.2⟩
theorem kk_W.tr {sa ad ad' : Nat → Nat} {o τ τ' : jj_T} {r r' : jj_R} (h : kk_W sa ad o τ r) (h' : kk_W sa ad' τ τ' r') : kk_W sa ad' o τ' r' := ⟨h'.1, h'.2.1, h'.2.2.1, fun a ha => by
  have h1 := h.2.2.2.1 a ha
  exact (h'.2.2.2.1 a (by rw [h1]; exact ha)).trans h1, h'.2.2.2.2.1, h'.2.2.2.2.2⟩
theorem kk_W.mo {sa ad : Nat → Nat} {o τ : jj_T} {r : jj_R} (h : kk_W sa ad o τ r) : ∀ b, kk_r o b → kk_r τ b := fun b hb => hb.imp (fun z => by rw [h.2.2.2.1 b z]; exact z) id
theorem kk_sc {τ : jj_T} {ad ad' : Nat → Nat} (h : ∀ v, kk_r τ v → ad' v = ad v) {u : jj_v} (hu : kk_v τ u) : jj_c ad' u = jj_c ad u := by
  rcases u with x | x | x
  · rfl
  · rfl
  · cases x with
    | none => rfl
    | some b => show va_rf (some (ad' b)) = va_rf (some (ad b)); rw [h b hu]
theorem kk_scm {τ : jj_T} {ad ad' : Nat → Nat} (h : ∀ v, kk_r τ v → ad' v = ad v) : ∀ {st : List jj_v}, kk_vs τ st → st.map (jj_c ad') = st.map (jj_c ad) := by
  intro st
  induction st with
  | nil => intro _; rfl
  | cons u t ih => intro hs; rw [List.map_cons, List.map_cons, ih hs.2, kk_sc h hs.1]
theorem kk_scl {τ : jj_T} {ad ad' : Nat → Nat} (h : ∀ v, kk_r τ v → ad' v = ad v) : ∀ {ls : List (Nat × jj_v)}, kk_ls τ ls → jj_ml ad' ls = jj_ml ad ls := by
  intro ls
  induction ls with
  | nil => intro _; rfl
  | cons u t ih => intro hs; show (u.1, _) :: jj_ml _ t = _; rw [ih hs.2, kk_sc h hs.1]; rfl
theorem kk_app {τ : jj_T} {a b : List jj_v} (ha : kk_vs τ a) (hb : kk_vs τ b) : kk_vs τ (a ++ b) := by
  induction a with
  | nil => exact hb
  | cons u t ih => exact ⟨ha.1, ih ha.2⟩
theorem kk_apr {τ : jj_T} {a b : List jj_v} (h : kk_vs τ (a ++ b)) : kk_vs τ a ∧ kk_vs τ b := by
  induction a with
  | nil => exact ⟨trivial, h⟩
  | cons u t ih => exact ⟨⟨h.1, (ih h.2).1⟩, (ih h.2).2⟩
theorem kk_rev {τ : jj_T} : ∀ {a : List jj_v}, kk_vs τ a.reverse → kk_vs τ a := by
  intro a
  induction a with
  | nil => intro _; trivial
  | cons u t ih =>
    intro h
    rw [List.reverse_cons] at h
    exact ⟨(kk_apr h).2.1, ih (kk_apr h).1⟩
theorem kk_blind (G : jj_G) (As : List Value) (τ : jj_T) (I : jj_I) (L : jj_L) (r : jj_R) (F : Heap → Prop) : FrameBlind (va_Pc As (fun U => jj_Wd G τ I L r U ∧ F U.heap)) := jj_blind G As τ I L r F
theorem kk_pre {l : Launch} {D : va_G} {aC : Nat → ClassId} {ad ad0 : Nat → Nat} {A : Nat → Prop} {sa : Nat → Nat} {p : Program} {e : Env} {R : Room} {s : State} {m : MethodId} {args : Array Value} {below : List Frame} {meth : Method} {c : Code} {cc : ByteArray} {own : String} {nL fr lo mc ms : Nat} (hX : kk_ok ((l, D, aC, ad0, A, sa), p, e, R, s, m, args, below, meth, c) cc own nL fr lo mc ms)
    {τ : jj_T} {I : jj_I} {L : jj_L} {r : jj_R} {H : Heap} {locs : List Loc} (hV : jj_V D aC ad A τ I L r H) (hS : va_S A s.heap H locs) {fb : Bool} (hfb : fb = true → ∀ q, s.heap.size ≤ q → A q) {U : State} (hU : U.heap = H) (hW : s.WarmedH U.vm) : jj_Wd (l, D, aC, ad, A, sa) τ I L r U ∧ ((fb = true → ∀ q, U.heap.size ≤ q → A q) ∧ ∀ i, i ≤ 6 → sa i < U.heap.size) := by
  have h : jj_ok ((l, D, aC, ad, A, sa), p, e, R, s, m, args, below, meth, c) cc own nL fr lo mc ms := hX.1
  have g := jj_pre h hV hS hfb hU hW
  exact ⟨g.1, g.2, fun i hi => Nat.lt_of_lt_of_le (hX.2 i hi) (by rw [hU]; exact hS.1)⟩
section JN
variable {l : Launch} {D : va_G} {aC : Nat → ClassId} {ad ad0 : Nat → Nat} {A : Nat → Prop} {sa : Nat → Nat} {p : Program} {e : Env} {R : Room} {s : State} {m : MethodId} {args : Array Value} {below : List Frame} {meth : Method} {c : Code} {k n pc mc' ms' : Nat} {Q : State → Prop} {H : Heap} {locs : List Loc} {la : Array Slot} {ls : List (Nat × jj_v)} {st0 : List Value} {rest : List jj_v} {P : jj_P} {PX : jj_PX} {av : Array Value} {o τ : jj_T} {r : jj_R}


theorem kk_after (hr : vy_Run p l e R s m args below meth c H locs k n mc' ms' (F0 m pc la st0) (rest.map (jj_c ad)) (kk_Qc (l, D, aC, ad0, A, sa) ad τ P av) (kk_Xc (l, D, aC, ad0, A, sa) ad τ PX) A) (hl : lv_has la c.maxLocals (jj_ml ad ls)) (hS : va_S A s.heap H locs)
    (ha9 : ∀ v, kk_r o v → ad v = ad0 v) (hW : kk_W sa ad o τ r) (hls : kk_ls τ ls) (hrs : kk_vs τ rest)
    (kk : ∀ (v : Option jj_v) (τ : jj_T) (I : jj_I) (L : jj_L) (r : jj_R), P v τ I L r → kk_J ((l, D, aC, ad0, A, sa), p, e, R, s, m, args, below, meth, c) o Q (k + mc') (n + ms') (pc + 3) ls (v.toList ++ rest) τ I L r)
    (kx : ∀ (a : Nat) (τ : jj_T) (I : jj_I) (L : jj_L) (r : jj_R), PX a τ I L r → kk_JT ((l, D, aC, ad0, A, sa), p, e, R, s, m, args, below, meth, c) o Q (k + mc') (n + ms') pc ls a τ I L r) : W p l e R s m args below meth c H locs k n Q (F0 m pc la st0) := by
  intro T hT X
  rcases hr T hT X with ⟨v, st₀, t, T', L, h0, X', hL, e1, e2, ⟨ad', hx, v', τ', I, L9, r', hv, ⟨hp, hW', hvs⟩, hwd, hF⟩, st⟩ | ⟨q, st₀, t, T', L, E, ce, h0, X', hL, e1, e2, ⟨ad', hx, hE, a, τ', I, L9, r', hq, hτ, ⟨hp, hW'⟩, hwd, hF⟩, hce, hcv, hcl, st⟩
  · cases hv
    obtain ⟨k1, k2, k3⟩ := vy_keep h0 e1 hS (fun _ _ h => h) (fun _ h => h) hL hF
    have hV : jj_V D aC ad' A τ' I L9 r' T'.heap := by rw [e1]; exact hwd.1
    have hl' : lv_has la c.maxLocals (jj_ml ad' ls) := by rw [kk_scl hx hls]; exact hl
    obtain ⟨t2, a1, b1⟩ := kk v' τ' I L9 r' hp ad' (fun w hw => (hx w (hW.mo w hw)).trans (ha9 w hw)) (hW.tr hW') (kk_monl hW'.mo hls) (kk_app hvs (kk_mons hW'.mo hrs)) T'.heap (locs ++ L) la hl' hV k3 T' rfl X'
    refine ⟨t2, st t2 ?_, b1⟩
    have hm := kk_scm hx hrs
    cases v' with
    | none => rw [← hm]; exact a1
    | some u => rw [← hm]; exact a1
  · obtain ⟨k1, k2, k3⟩ := vy_keep h0 e1 hS (fun _ _ h => h) (fun _ h => h) hL hF
    have hV : jj_V D aC ad' A τ' I L9 r' T'.heap := by rw [e1]; exact hwd.1
    have hl' : lv_has la c.maxLocals (jj_ml ad' ls) := by rw [kk_scl hx hls]; exact hl
    obtain ⟨t2, a1, b1⟩ := kx a τ' I L9 r' hp ad' (fun w hw => (hx w (hW.mo w hw)).trans (ha9 w hw)) (hW.tr hW') (kk_monl hW'.mo hls) T'.heap (locs ++ L) la (rest.map (jj_c ad)) hl' hV k3 hτ T' rfl X'
    refine ⟨t2, st.trans ?_, b1⟩
    rw [hq]
    exact a1

theorem kk_after5 (hr : vy_Run5 p l e R s m args below meth c H locs k n mc' ms' (F0 m pc la st0) (rest.map (jj_c ad)) (kk_Qc (l, D, aC, ad0, A, sa) ad τ P av) (kk_Xc (l, D, aC, ad0, A, sa) ad τ PX) A) (hl : lv_has la c.maxLocals (jj_ml ad ls)) (hS : va_S A s.heap H locs)
    (ha9 : ∀ v, kk_r o v → ad v = ad0 v) (hW : kk_W sa ad o τ r) (hls : kk_ls τ ls) (hrs : kk_vs τ rest)
    (kk : ∀ (v : Option jj_v) (τ : jj_T) (I : jj_I) (L : jj_L) (r : jj_R), P v τ I L r → kk_J ((l, D, aC, ad0, A, sa), p, e, R, s, m, args, below, meth, c) o Q (k + mc') (n + ms') (pc + 5) ls (v.toList ++ rest) τ I L r)
    (kx : ∀ (a : Nat) (τ : jj_T) (I : jj_I) (L : jj_L) (r : jj_R), PX a τ I L r → kk_JT ((l, D, aC, ad0, A, sa), p, e, R, s, m, args, below, meth, c) o Q (k + mc') (n + ms') pc ls a τ I L r) : W p l e R s m args below meth c H locs k n Q (F0 m pc la st0) := by
  intro T hT X
  rcases hr T hT X with ⟨v, st₀, t, T', L, h0, X', hL, e1, e2, ⟨ad', hx, v', τ', I, L9, r', hv, ⟨hp, hW', hvs⟩, hwd, hF⟩, st⟩ | ⟨q, st₀, t, T', L, E, ce, h0, X', hL, e1, e2, ⟨ad', hx, hE, a, τ', I, L9, r', hq, hτ, ⟨hp, hW'⟩, hwd, hF⟩, hce, hcv, hcl, st⟩
  · cases hv
    obtain ⟨k1, k2, k3⟩ := vy_keep h0 e1 hS (fun _ _ h => h) (fun _ h => h) hL hF
    have hV : jj_V D aC ad' A τ' I L9 r' T'.heap := by rw [e1]; exact hwd.1
    have hl' : lv_has la c.maxLocals (jj_ml ad' ls) := by rw [kk_scl hx hls]; exact hl
    obtain ⟨t2, a1, b1⟩ := kk v' τ' I L9 r' hp ad' (fun w hw => (hx w (hW.mo w hw)).trans (ha9 w hw)) (hW.tr hW') (kk_monl hW'.mo hls) (kk_app hvs (kk_mons hW'.mo hrs)) T'.heap (locs ++ L) la hl' hV k3 T' rfl X'
    refine ⟨t2, st t2 ?_, b1⟩
    have hm := kk_scm hx hrs
    cases v' with
    | none => rw [← hm]; exact a1
    | some u => rw [← hm]; exact a1
  · obtain ⟨k1, k2, k3⟩ := vy_keep h0 e1 hS (fun _ _ h => h) (fun _ h => h) hL hF
    have hV : jj_V D aC ad' A τ' I L9 r' T'.heap := by rw [e1]; exact hwd.1
    have hl' : lv_has la c.maxLocals (jj_ml ad' ls) := by rw [kk_scl hx hls]; exact hl
    obtain ⟨t2, a1, b1⟩ := kx a τ' I L9 r' hp ad' (fun w hw => (hx w (hW.mo w hw)).trans (ha9 w hw)) (hW.tr hW') (kk_monl hW'.mo hls) T'.heap (locs ++ L) la (rest.map (jj_c ad)) hl' hV k3 hτ T' rfl X'
    refine ⟨t2, st.trans ?_, b1⟩
    rw [hq]
    exact a1
end JN
section JC2
variable {X : jj_X} {o : jj_T} {cc : ByteArray} {own : String} {nL fr lo mc ms : Nat} {Q : State → Prop} {k n pc : Nat} {ls : List (Nat × jj_v)} {st rest : List jj_v} {τ : jj_T} {I : jj_I} {L : jj_L} {r : jj_R}
variable {y : MethodName} {bytes : ByteArray} {maxL : Nat} {ret : Option FieldType} {rm : Room} {As : List jj_v} {fb : Bool} {P : jj_P} {PX : jj_PX} {idx b ci : Nat} {C : String} {T : u_T} {N : Nat}
theorem kk_callV (hX : kk_ok X cc own nL fr lo mc ms) (hM : kk_M X.1 y (ws_ y bytes maxL ret) rm (jR (some b) :: As) fb τ I L r P PX) (hdg : decode cc pc = .ok (.invokevirtual idx, 3)) (hw : GoodIn lw_all (wsV own idx C y (ws_ y bytes maxL ret))) (hyC : y.cls = C) (hy : y.cls ≠ "java/lang/invoke/MethodHandle" ∧ y.cls ≠ "java/lang/invoke/VarHandle" ∧ (parseMethodDescriptor y.desc).map (fun d => d.parameters.length) = some As.length) (hn : rm.frames + 1 ≤ fr ∧ 8 + (maxL + 11) + rm.locals ≤ lo ∧ k + rm.cells ≤ mc ∧ n + rm.slots ≤ ms ∧ jj_wt rest ≤ 8) (hfb : fb = true → jj_Fr X) (hτ : τ b = some (.inl ci)) (hc : jj_cl[ci]? = some (C, T, N)) (hst : st = As.reverse ++ jR (some b) :: rest) (kk : ∀ (v : Option jj_v) (τ' : jj_T) (I' : jj_I) (L' : jj_L) (r' : jj_R), P v τ' I' L' r' → kk_J X o Q (k + rm.cells) (n + rm.slots) (pc + 3) ls (v.toList ++ rest) τ' I' L' r') (kx : ∀ (a : Nat) (τ' : jj_T) (I' : jj_I) (L' : jj_L) (r' : jj_R), PX a τ' I' L' r' → kk_JT X o Q (k + rm.cells) (n + rm.slots) pc ls a τ' I' L' r') : kk_J X o Q k n pc ls st τ I L r := by
  obtain ⟨⟨l, D, aC, ad0, A, sa⟩, p, e, R, s, m, args, below, meth, c⟩ := X
  intro ad ha9 hW hls hst9 H locs la hl hV hS
  have hsp : kk_vs τ (jR (some b) :: As) ∧ kk_vs τ rest := by
    rw [hst] at hst9
    exact ⟨⟨(kk_apr hst9).2.1, kk_rev (kk_apr hst9).1⟩, (kk_apr hst9).2.2⟩
  obtain ⟨hsa, hrs⟩ := hsp
  have hM := hM ad hW.self hsa
  have hX' := hX.1
  obtain ⟨hx, hb, hml, hown, hts, hK, hTw, hFw, hSt, hlk, hRf, hRl, hRc, hRs⟩ := hX'
  obtain ⟨hn1, hn2, hn3, hn4, hn5⟩ := hn
  have hfl : rm.frames + 1 ≤ R.frames ∧ 8 + (maxL + 11) + rm.locals ≤ R.locals := ⟨by rw [hRf]; exact hn1, by rw [hRl]; exact hn2⟩
  have hcs : k + rm.cells ≤ R.cells ∧ n + rm.slots ≤ R.slots := ⟨by rw [hRc]; exact hn3, by rw [hRs]; exact hn4⟩
  have hw8 : 2 * (F0 m pc la (st.map (jj_c ad))).monitorRoom + ((rest.map (jj_c ad)).map fun v => v.category).sum ≤ 8 := lv_room (by rw [jj_wtc]; exact hn5)
  obtain ⟨q, h1, cell, q1, q2, q3, q4⟩ := hV.1 b _ hτ
  cases h1.symm.trans hc
  have hKn := hK.1 ci _ hc
  have hrecv : ∃ cellB : Cell, H[ad b]? = some cellB ∧ cellB.vm.isStatics = false ∧ s.vm.findClass C = some cellB.cls := ⟨cell, q1, by rw [q3]; rfl, by rw [q2]; exact hKn.2.1⟩
  refine kk_after (l := l) (D := D) (aC := aC) (ad := ad) (ad0 := ad0) (A := A) (sa := sa) (P := P) (PX := PX) (rest := rest) (τ := τ) (o := o) (vy_runV (C := C) (bytes := bytes) (maxL := maxL) (ret := ret) (As := As.map (jj_c ad)) ⟨hx, hb, hml, hown, hts⟩ hM (cwV As.length hts hw rfl rfl rfl ⟨hyC, hy⟩ hfl) ⟨kk_blind (l, D, aC, ad, A, sa) _ τ I L r (fun H => (fb = true → ∀ q, H.size ≤ q → A q) ∧ ∀ i, i ≤ 6 → sa i < H.size), hrecv, fun U hU hw9 => ⟨by rw [List.map_cons]; rfl, kk_pre hX hV hS hfb hU hw9⟩⟩ rfl (by simp) (hl.1.trans hml) (by show st.map (jj_c ad) = _; rw [hst]; simp [List.map_append, List.map_reverse, jj_c, va_rf]) hw8 hdg hcs) hl hS ha9 hW hls hrs kk kx
theorem kk_callS (hX : kk_ok X cc own nL fr lo mc ms) (hM : kk_M X.1 y (ws_ y bytes maxL ret) rm As fb τ I L r P PX) (hdg : decode cc pc = .ok (.invokestatic idx, 3)) (hw : GoodIn lw_all (va_wsS own idx y (ws_ y bytes maxL ret))) (hy : y.cls ≠ "java/lang/invoke/MethodHandle" ∧ y.cls ≠ "java/lang/invoke/VarHandle" ∧ (parseMethodDescriptor y.desc).map (fun d => d.parameters.length) = some As.length) (hn : rm.frames + 1 ≤ fr ∧ 8 + (maxL + 11) + rm.locals ≤ lo ∧ k + rm.cells ≤ mc ∧ n + rm.slots ≤ ms ∧ jj_wt rest ≤ 8) (hfb : fb = true → jj_Fr X) (hst : st = As.reverse ++ rest) (kk : ∀ (v : Option jj_v) (τ' : jj_T) (I' : jj_I) (L' : jj_L) (r' : jj_R), P v τ' I' L' r' → kk_J X o Q (k + rm.cells) (n + rm.slots) (pc + 3) ls (v.toList ++ rest) τ' I' L' r') (kx : ∀ (a : Nat) (τ' : jj_T) (I' : jj_I) (L' : jj_L) (r' : jj_R), PX a τ' I' L' r' → kk_JT X o Q (k + rm.cells) (n + rm.slots) pc ls a τ' I' L' r') : kk_J X o Q k n pc ls st τ I L r := by
  obtain ⟨⟨l, D, aC, ad0, A, sa⟩, p, e, R, s, m, args, below, meth, c⟩ := X
  intro ad ha9 hW hls hst9 H locs la hl hV hS
  have hsp : kk_vs τ As ∧ kk_vs τ rest := by
    rw [hst] at hst9
    exact ⟨kk_rev (kk_apr hst9).1, (kk_apr hst9).2⟩
  obtain ⟨hsa, hrs⟩ := hsp
  have hM := hM ad hW.self hsa
  have hX' := hX.1
  obtain ⟨hx, hb, hml, hown, hts, hK, hTw, hFw, hSt, hlk, hRf, hRl, hRc, hRs⟩ := hX'
  obtain ⟨hn1, hn2, hn3, hn4, hn5⟩ := hn
  have hfl : rm.frames + 1 ≤ R.frames ∧ 8 + (maxL + 11) + rm.locals ≤ R.locals := ⟨by rw [hRf]; exact hn1, by rw [hRl]; exact hn2⟩
  have hcs : k + rm.cells ≤ R.cells ∧ n + rm.slots ≤ R.slots := ⟨by rw [hRc]; exact hn3, by rw [hRs]; exact hn4⟩
  have hw8 : 2 * (F0 m pc la (st.map (jj_c ad))).monitorRoom + ((rest.map (jj_c ad)).map fun v => v.category).sum ≤ 8 := lv_room (by rw [jj_wtc]; exact hn5)
  refine kk_after (l := l) (D := D) (aC := aC) (ad := ad) (ad0 := ad0) (A := A) (sa := sa) (P := P) (PX := PX) (rest := rest) (τ := τ) (o := o) (vy_runS (bytes := bytes) (maxL := maxL) (ret := ret) (As := As.map (jj_c ad)) ⟨hx, hb, hml, hown, hts⟩ hM (va_cwS As.length hts hw rfl rfl rfl hy hfl) ⟨kk_blind (l, D, aC, ad, A, sa) _ τ I L r (fun H => (fb = true → ∀ q, H.size ≤ q → A q) ∧ ∀ i, i ≤ 6 → sa i < H.size), fun U hU hw9 => ⟨rfl, kk_pre hX hV hS hfb hU hw9⟩⟩ rfl (by simp) (hl.1.trans hml) (by show st.map (jj_c ad) = _; rw [hst]; simp [List.map_append, List.map_reverse]) hw8 hdg hcs) hl hS ha9 hW hls hrs kk kx
theorem kk_callI (hX : kk_ok X cc own nL fr lo mc ms) (hM : kk_M X.1 y (ws_ y bytes maxL none) rm (jR (some b) :: As) fb τ I L r P PX) (hdg : decode cc pc = .ok (.invokespecial idx, 3)) (hw : GoodIn lw_all (ws_ y bytes maxL none)) (hw2 : Cond.methodLink own idx y ∈ lw_all ∧ Cond.instanceMethod y ∈ lw_all ∧ Cond.initialized y.cls ∈ lw_all ∧ y.name = "<init>") (hy : y.cls ≠ "java/lang/invoke/MethodHandle" ∧ y.cls ≠ "java/lang/invoke/VarHandle" ∧ (parseMethodDescriptor y.desc).map (fun d => d.parameters.length) = some As.length) (hn : rm.frames + 1 ≤ fr ∧ 8 + (maxL + 11) + rm.locals ≤ lo ∧ k + rm.cells ≤ mc ∧ n + rm.slots ≤ ms ∧ jj_wt rest ≤ 8) (hfb : fb = true → jj_Fr X) (hst : st = As.reverse ++ jR (some b) :: rest) (kk : ∀ (v : Option jj_v) (τ' : jj_T) (I' : jj_I) (L' : jj_L) (r' : jj_R), P v τ' I' L' r' → kk_J X o Q (k + rm.cells) (n + rm.slots) (pc + 3) ls (v.toList ++ rest) τ' I' L' r') (kx : ∀ (a : Nat) (τ' : jj_T) (I' : jj_I) (L' : jj_L) (r' : jj_R), PX a τ' I' L' r' → kk_JT X o Q (k + rm.cells) (n + rm.slots) pc ls a τ' I' L' r') : kk_J X o Q k n pc ls st τ I L r := by
  obtain ⟨⟨l, D, aC, ad0, A, sa⟩, p, e, R, s, m, args, below, meth, c⟩ := X
  intro ad ha9 hW hls hst9 H locs la hl hV hS
  have hsp : kk_vs τ (jR (some b) :: As) ∧ kk_vs τ rest := by
    rw [hst] at hst9
    exact ⟨⟨(kk_apr hst9).2.1, kk_rev (kk_apr hst9).1⟩, (kk_apr hst9).2.2⟩
  obtain ⟨hsa, hrs⟩ := hsp
  have hM := hM ad hW.self hsa
  have hX' := hX.1
  obtain ⟨hx, hb, hml, hown, hts, hK, hTw, hFw, hSt, hlk, hRf, hRl, hRc, hRs⟩ := hX'
  obtain ⟨hn1, hn2, hn3, hn4, hn5⟩ := hn
  have hfl : rm.frames + 1 ≤ R.frames ∧ 8 + (maxL + 11) + rm.locals ≤ R.locals := ⟨by rw [hRf]; exact hn1, by rw [hRl]; exact hn2⟩
  have hcs : k + rm.cells ≤ R.cells ∧ n + rm.slots ≤ R.slots := ⟨by rw [hRc]; exact hn3, by rw [hRs]; exact hn4⟩
  have hw8 : 2 * (F0 m pc la (st.map (jj_c ad))).monitorRoom + ((rest.map (jj_c ad)).map fun v => v.category).sum ≤ 8 := lv_room (by rw [jj_wtc]; exact hn5)
  refine kk_after (l := l) (D := D) (aC := aC) (ad := ad) (ad0 := ad0) (A := A) (sa := sa) (P := P) (PX := PX) (rest := rest) (τ := τ) (o := o) (vy_runI (bytes := bytes) (maxL := maxL) (b := ad b) (As := As.map (jj_c ad)) ⟨hx, hb, hml, hown, hts⟩ hM (cwI As.length hts hw rfl rfl rfl (hts _ hw2.2.2.1) (hts _ hw2.1) (hts _ hw2.2.1) hw2.2.2.2 hy hfl) ⟨kk_blind (l, D, aC, ad, A, sa) _ τ I L r (fun H => (fb = true → ∀ q, H.size ≤ q → A q) ∧ ∀ i, i ≤ 6 → sa i < H.size), fun U hU hw9 => ⟨rfl, kk_pre hX hV hS hfb hU hw9⟩⟩ rfl (by simp) (hl.1.trans hml) (by show st.map (jj_c ad) = _; rw [hst]; simp [List.map_append, List.map_reverse, jj_c, va_rf]) hw8 hdg hcs) hl hS ha9 hW hls hrs kk kx
theorem kk_callVN (hX : kk_ok X cc own nL fr lo mc ms) (hM : kk_M X.1 y (ws_ y bytes maxL ret) rm (jR (some b) :: As) fb τ I L r P PX) (hdg : decode cc pc = .ok (.invokevirtual idx, 3)) (hw : GoodIn lw_all (ws_ y bytes maxL ret)) {host : String} (hw3 : Cond.methodLinkNest own idx y host ∈ jj_tw) (hw2 : Cond.instanceMethod y ∈ lw_all ∧ Cond.selects C y y ∈ lw_all ∧ Cond.initialized y.cls ∈ lw_all) (hy : y.cls ≠ "java/lang/invoke/MethodHandle" ∧ y.cls ≠ "java/lang/invoke/VarHandle" ∧ (parseMethodDescriptor y.desc).map (fun d => d.parameters.length) = some As.length) (hn : rm.frames + 1 ≤ fr ∧ 8 + (maxL + 11) + rm.locals ≤ lo ∧ k + rm.cells ≤ mc ∧ n + rm.slots ≤ ms ∧ jj_wt rest ≤ 8) (hfb : fb = true → jj_Fr X) (hτ : τ b = some (.inl ci)) (hc : jj_cl[ci]? = some (C, T, N)) (hst : st = As.reverse ++ jR (some b) :: rest) (kk : ∀ (v : Option jj_v) (τ' : jj_T) (I' : jj_I) (L' : jj_L) (r' : jj_R), P v τ' I' L' r' → kk_J X o Q (k + rm.cells) (n + rm.slots) (pc + 3) ls (v.toList ++ rest) τ' I' L' r') (kx : ∀ (a : Nat) (τ' : jj_T) (I' : jj_I) (L' : jj_L) (r' : jj_R), PX a τ' I' L' r' → kk_JT X o Q (k + rm.cells) (n + rm.slots) pc ls a τ' I' L' r') : kk_J X o Q k n pc ls st τ I L r := by
  obtain ⟨⟨l, D, aC, ad0, A, sa⟩, p, e, R, s, m, args, below, meth, c⟩ := X
  intro ad ha9 hW hls hst9 H locs la hl hV hS
  have hsp : kk_vs τ (jR (some b) :: As) ∧ kk_vs τ rest := by
    rw [hst] at hst9
    exact ⟨⟨(kk_apr hst9).2.1, kk_rev (kk_apr hst9).1⟩, (kk_apr hst9).2.2⟩
  obtain ⟨hsa, hrs⟩ := hsp
  have hM := hM ad hW.self hsa
  have hX' := hX.1
  obtain ⟨hx, hb, hml, hown, hts, hK, hTw, hFw, hSt, hlk, hRf, hRl, hRc, hRs⟩ := hX'
  obtain ⟨hn1, hn2, hn3, hn4, hn5⟩ := hn
  have hfl : rm.frames + 1 ≤ R.frames ∧ 8 + (maxL + 11) + rm.locals ≤ R.locals := ⟨by rw [hRf]; exact hn1, by rw [hRl]; exact hn2⟩
  have hcs : k + rm.cells ≤ R.cells ∧ n + rm.slots ≤ R.slots := ⟨by rw [hRc]; exact hn3, by rw [hRs]; exact hn4⟩
  have hw8 : 2 * (F0 m pc la (st.map (jj_c ad))).monitorRoom + ((rest.map (jj_c ad)).map fun v => v.category).sum ≤ 8 := lv_room (by rw [jj_wtc]; exact hn5)
  obtain ⟨q, h1, cell, q1, q2, q3, q4⟩ := hV.1 b _ hτ
  cases h1.symm.trans hc
  have hKn := hK.1 ci _ hc
  have hrecv : ∃ cellB : Cell, H[ad b]? = some cellB ∧ cellB.vm.isStatics = false ∧ s.vm.findClass C = some cellB.cls := ⟨cell, q1, by rw [q3]; rfl, by rw [q2]; exact hKn.2.1⟩
  refine kk_after (l := l) (D := D) (aC := aC) (ad := ad) (ad0 := ad0) (A := A) (sa := sa) (P := P) (PX := PX) (rest := rest) (τ := τ) (o := o) (vy_runVN (C := C) (bytes := bytes) (maxL := maxL) (ret := ret) (As := As.map (jj_c ad)) ⟨hx, hb, hml, hown, hts⟩ hM ⟨va_cnB As.length hts hw rfl rfl rfl (hTw _ hw3) (hts _ hw2.2.2) hy hfl, hts _ hw2.1, hts _ hw2.2.1⟩ ⟨kk_blind (l, D, aC, ad, A, sa) _ τ I L r (fun H => (fb = true → ∀ q, H.size ≤ q → A q) ∧ ∀ i, i ≤ 6 → sa i < H.size), hrecv, fun U hU hw9 => ⟨by rw [List.map_cons]; rfl, kk_pre hX hV hS hfb hU hw9⟩⟩ rfl (by simp) (hl.1.trans hml) (by show st.map (jj_c ad) = _; rw [hst]; simp [List.map_append, List.map_reverse, jj_c, va_rf]) hw8 hdg hcs) hl hS ha9 hW hls hrs kk kx
theorem kk_callSN (hX : kk_ok X cc own nL fr lo mc ms) (hM : kk_M X.1 y (ws_ y bytes maxL ret) rm As fb τ I L r P PX) (hdg : decode cc pc = .ok (.invokestatic idx, 3)) (hw : GoodIn lw_all (ws_ y bytes maxL ret)) {host : String} (hw3 : Cond.methodLinkNest own idx y host ∈ jj_tw) (hw2 : Cond.static y ∈ lw_all ∧ Cond.initialized y.cls ∈ lw_all) (hy : y.cls ≠ "java/lang/invoke/MethodHandle" ∧ y.cls ≠ "java/lang/invoke/VarHandle" ∧ (parseMethodDescriptor y.desc).map (fun d => d.parameters.length) = some As.length) (hn : rm.frames + 1 ≤ fr ∧ 8 + (maxL + 11) + rm.locals ≤ lo ∧ k + rm.cells ≤ mc ∧ n + rm.slots ≤ ms ∧ jj_wt rest ≤ 8) (hfb : fb = true → jj_Fr X) (hst : st = As.reverse ++ rest) (kk : ∀ (v : Option jj_v) (τ' : jj_T) (I' : jj_I) (L' : jj_L) (r' : jj_R), P v τ' I' L' r' → kk_J X o Q (k + rm.cells) (n + rm.slots) (pc + 3) ls (v.toList ++ rest) τ' I' L' r') (kx : ∀ (a : Nat) (τ' : jj_T) (I' : jj_I) (L' : jj_L) (r' : jj_R), PX a τ' I' L' r' → kk_JT X o Q (k + rm.cells) (n + rm.slots) pc ls a τ' I' L' r') : kk_J X o Q k n pc ls st τ I L r := by
  obtain ⟨⟨l, D, aC, ad0, A, sa⟩, p, e, R, s, m, args, below, meth, c⟩ := X
  intro ad ha9 hW hls hst9 H locs la hl hV hS
  have hsp : kk_vs τ As ∧ kk_vs τ rest := by
    rw [hst] at hst9
    exact ⟨kk_rev (kk_apr hst9).1, (kk_apr hst9).2⟩
  obtain ⟨hsa, hrs⟩ := hsp
  have hM := hM ad hW.self hsa
  have hX' := hX.1
  obtain ⟨hx, hb, hml, hown, hts, hK, hTw, hFw, hSt, hlk, hRf, hRl, hRc, hRs⟩ := hX'
  obtain ⟨hn1, hn2, hn3, hn4, hn5⟩ := hn
  have hfl : rm.frames + 1 ≤ R.frames ∧ 8 + (maxL + 11) + rm.locals ≤ R.locals := ⟨by rw [hRf]; exact hn1, by rw [hRl]; exact hn2⟩
  have hcs : k + rm.cells ≤ R.cells ∧ n + rm.slots ≤ R.slots := ⟨by rw [hRc]; exact hn3, by rw [hRs]; exact hn4⟩
  have hw8 : 2 * (F0 m pc la (st.map (jj_c ad))).monitorRoom + ((rest.map (jj_c ad)).map fun v => v.category).sum ≤ 8 := lv_room (by rw [jj_wtc]; exact hn5)
  refine kk_after (l := l) (D := D) (aC := aC) (ad := ad) (ad0 := ad0) (A := A) (sa := sa) (P := P) (PX := PX) (rest := rest) (τ := τ) (o := o) (vy_runSN (bytes := bytes) (maxL := maxL) (ret := ret) (As := As.map (jj_c ad)) ⟨hx, hb, hml, hown, hts⟩ hM ⟨va_cnB As.length hts hw rfl rfl rfl (hTw _ hw3) (hts _ hw2.2) hy hfl, hts _ hw2.1, trivial⟩ ⟨kk_blind (l, D, aC, ad, A, sa) _ τ I L r (fun H => (fb = true → ∀ q, H.size ≤ q → A q) ∧ ∀ i, i ≤ 6 → sa i < H.size), fun U hU hw9 => ⟨rfl, kk_pre hX hV hS hfb hU hw9⟩⟩ rfl (by simp) (hl.1.trans hml) (by show st.map (jj_c ad) = _; rw [hst]; simp [List.map_append, List.map_reverse]) hw8 hdg hcs) hl hS ha9 hW hls hrs kk kx
theorem kk_callIN (hX : kk_ok X cc own nL fr lo mc ms) (hM : kk_M X.1 y (ws_ y bytes maxL none) rm (jR (some b) :: As) fb τ I L r P PX) (hdg : decode cc pc = .ok (.invokespecial idx, 3)) (hw : GoodIn lw_all (ws_ y bytes maxL none)) {host : String} (hw3 : Cond.methodLinkNest own idx y host ∈ jj_tw) (hw2 : Cond.instanceMethod y ∈ lw_all ∧ Cond.initialized y.cls ∈ lw_all ∧ y.name = "<init>") (hy : y.cls ≠ "java/lang/invoke/MethodHandle" ∧ y.cls ≠ "java/lang/invoke/VarHandle" ∧ (parseMethodDescriptor y.desc).map (fun d => d.parameters.length) = some As.length) (hn : rm.frames + 1 ≤ fr ∧ 8 + (maxL + 11) + rm.locals ≤ lo ∧ k + rm.cells ≤ mc ∧ n + rm.slots ≤ ms ∧ jj_wt rest ≤ 8) (hfb : fb = true → jj_Fr X) (hst : st = As.reverse ++ jR (some b) :: rest) (kk : ∀ (v : Option jj_v) (τ' : jj_T) (I' : jj_I) (L' : jj_L) (r' : jj_R), P v τ' I' L' r' → kk_J X o Q (k + rm.cells) (n + rm.slots) (pc + 3) ls (v.toList ++ rest) τ' I' L' r') (kx : ∀ (a : Nat) (τ' : jj_T) (I' : jj_I) (L' : jj_L) (r' : jj_R), PX a τ' I' L' r' → kk_JT X o Q (k + rm.cells) (n + rm.slots) pc ls a τ' I' L' r') : kk_J X o Q k n pc ls st τ I L r := by
  obtain ⟨⟨l, D, aC, ad0, A, sa⟩, p, e, R, s, m, args, below, meth, c⟩ := X
  intro ad ha9 hW hls hst9 H locs la hl hV hS
  have hsp : kk_vs τ (jR (some b) :: As) ∧ kk_vs τ rest := by
    rw [hst] at hst9
    exact ⟨⟨(kk_apr hst9).2.1, kk_rev (kk_apr hst9).1⟩, (kk_apr hst9).2.2⟩
  obtain ⟨hsa, hrs⟩ := hsp
  have hM := hM ad hW.self hsa
  have hX' := hX.1
  obtain ⟨hx, hb, hml, hown, hts, hK, hTw, hFw, hSt, hlk, hRf, hRl, hRc, hRs⟩ := hX'
  obtain ⟨hn1, hn2, hn3, hn4, hn5⟩ := hn
  have hfl : rm.frames + 1 ≤ R.frames ∧ 8 + (maxL + 11) + rm.locals ≤ R.locals := ⟨by rw [hRf]; exact hn1, by rw [hRl]; exact hn2⟩
  have hcs : k + rm.cells ≤ R.cells ∧ n + rm.slots ≤ R.slots := ⟨by rw [hRc]; exact hn3, by rw [hRs]; exact hn4⟩
  have hw8 : 2 * (F0 m pc la (st.map (jj_c ad))).monitorRoom + ((rest.map (jj_c ad)).map fun v => v.category).sum ≤ 8 := lv_room (by rw [jj_wtc]; exact hn5)
  refine kk_after (l := l) (D := D) (aC := aC) (ad := ad) (ad0 := ad0) (A := A) (sa := sa) (P := P) (PX := PX) (rest := rest) (τ := τ) (o := o) (vy_runIN (bytes := bytes) (maxL := maxL) (b := ad b) (As := As.map (jj_c ad)) ⟨hx, hb, hml, hown, hts⟩ hM ⟨va_cnB As.length hts hw rfl rfl rfl (hTw _ hw3) (hts _ hw2.2.1) hy hfl, hw2.2.2, hts _ hw2.1⟩ ⟨kk_blind (l, D, aC, ad, A, sa) _ τ I L r (fun H => (fb = true → ∀ q, H.size ≤ q → A q) ∧ ∀ i, i ≤ 6 → sa i < H.size), fun U hU hw9 => ⟨rfl, kk_pre hX hV hS hfb hU hw9⟩⟩ rfl (by simp) (hl.1.trans hml) (by show st.map (jj_c ad) = _; rw [hst]; simp [List.map_append, List.map_reverse, jj_c, va_rf]) hw8 hdg hcs) hl hS ha9 hW hls hrs kk kx
theorem kk_callU (hX : kk_ok X cc own nL fr lo mc ms) (hM : kk_M X.1 y (ws_ y bytes maxL ret) rm (jR (some b) :: As) fb τ I L r P PX) (hdg : decode cc pc = .ok (.invokevirtual idx, 3)) {x : MethodName} {owner : String} (hw : GoodIn lw_all (ws_ y bytes maxL ret)) (hw2 : Cond.methodLink own idx x ∈ lw_all ∧ Cond.sameMethod x.cls owner x.name x.desc ∈ lw_all ∧ Cond.selects C x y ∈ lw_all ∧ Cond.instanceMethod y ∈ lw_all ∧ Cond.initialized y.cls ∈ lw_all ∧ Cond.declares ⟨owner, x.name, x.desc⟩ ∈ jj_tw) (hy : owner ≠ "java/lang/invoke/MethodHandle" ∧ owner ≠ "java/lang/invoke/VarHandle" ∧ (parseMethodDescriptor x.desc).map (fun d => d.parameters.length) = some As.length) (hn : rm.frames + 1 ≤ fr ∧ 8 + (maxL + 11) + rm.locals ≤ lo ∧ k + rm.cells ≤ mc ∧ n + rm.slots ≤ ms ∧ jj_wt rest ≤ 8) (hfb : fb = true → jj_Fr X) (hτ : τ b = some (.inl ci)) (hc : jj_cl[ci]? = some (C, T, N)) (hst : st = As.reverse ++ jR (some b) :: rest) (kk : ∀ (v : Option jj_v) (τ' : jj_T) (I' : jj_I) (L' : jj_L) (r' : jj_R), P v τ' I' L' r' → kk_J X o Q (k + rm.cells) (n + rm.slots) (pc + 3) ls (v.toList ++ rest) τ' I' L' r') (kx : ∀ (a : Nat) (τ' : jj_T) (I' : jj_I) (L' : jj_L) (r' : jj_R), PX a τ' I' L' r' → kk_JT X o Q (k + rm.cells) (n + rm.slots) pc ls a τ' I' L' r') : kk_J X o Q k n pc ls st τ I L r := by
  obtain ⟨⟨l, D, aC, ad0, A, sa⟩, p, e, R, s, m, args, below, meth, c⟩ := X
  intro ad ha9 hW hls hst9 H locs la hl hV hS
  have hsp : kk_vs τ (jR (some b) :: As) ∧ kk_vs τ rest := by
    rw [hst] at hst9
    exact ⟨⟨(kk_apr hst9).2.1, kk_rev (kk_apr hst9).1⟩, (kk_apr hst9).2.2⟩
  obtain ⟨hsa, hrs⟩ := hsp
  have hM := hM ad hW.self hsa
  have hX' := hX.1
  obtain ⟨hx, hb, hml, hown, hts, hK, hTw, hFw, hSt, hlk, hRf, hRl, hRc, hRs⟩ := hX'
  obtain ⟨hn1, hn2, hn3, hn4, hn5⟩ := hn
  have hfl : rm.frames + 1 ≤ R.frames ∧ 8 + (maxL + 11) + rm.locals ≤ R.locals := ⟨by rw [hRf]; exact hn1, by rw [hRl]; exact hn2⟩
  have hcs : k + rm.cells ≤ R.cells ∧ n + rm.slots ≤ R.slots := ⟨by rw [hRc]; exact hn3, by rw [hRs]; exact hn4⟩
  have hw8 : 2 * (F0 m pc la (st.map (jj_c ad))).monitorRoom + ((rest.map (jj_c ad)).map fun v => v.category).sum ≤ 8 := lv_room (by rw [jj_wtc]; exact hn5)
  obtain ⟨q, h1, cell, q1, q2, q3, q4⟩ := hV.1 b _ hτ
  cases h1.symm.trans hc
  have hKn := hK.1 ci _ hc
  have hrecv : ∃ cellB : Cell, H[ad b]? = some cellB ∧ cellB.vm.isStatics = false ∧ s.vm.findClass C = some cellB.cls := ⟨cell, q1, by rw [q3]; rfl, by rw [q2]; exact hKn.2.1⟩
  refine kk_after (l := l) (D := D) (aC := aC) (ad := ad) (ad0 := ad0) (A := A) (sa := sa) (P := P) (PX := PX) (rest := rest) (τ := τ) (o := o) (vy_runU (C := C) (owner := owner) (x := x) (bytes := bytes) (maxL := maxL) (ret := ret) (As := As.map (jj_c ad)) ⟨hx, hb, hml, hown, hts⟩ hM (jj_CU As.length hts hTw hw rfl rfl hw2 hy hfl) ⟨kk_blind (l, D, aC, ad, A, sa) _ τ I L r (fun H => (fb = true → ∀ q, H.size ≤ q → A q) ∧ ∀ i, i ≤ 6 → sa i < H.size), hrecv, fun U hU hw9 => ⟨by rw [List.map_cons]; rfl, kk_pre hX hV hS hfb hU hw9⟩⟩ rfl (by simp) (hl.1.trans hml) (by show st.map (jj_c ad) = _; rw [hst]; simp [List.map_append, List.map_reverse, jj_c, va_rf]) hw8 hdg hcs) hl hS ha9 hW hls hrs kk kx
theorem kk_callF (hX : kk_ok X cc own nL fr lo mc ms) {cnt : Nat} (hM : kk_M X.1 y (ws_ y bytes maxL ret) rm (jR (some b) :: As) fb τ I L r P PX) (hdg : decode cc pc = .ok (.invokeinterface idx cnt, 5)) {x : MethodName} (hw : GoodIn lw_all (va_wsF own idx C x y (ws_ y bytes maxL ret))) (hw2 : (C, x, y) ∈ jj_fl) (hy : x.cls ≠ "java/lang/invoke/MethodHandle" ∧ x.cls ≠ "java/lang/invoke/VarHandle" ∧ (parseMethodDescriptor x.desc).map (fun d => d.parameters.length) = some As.length) (hn : rm.frames + 1 ≤ fr ∧ 8 + (maxL + 11) + rm.locals ≤ lo ∧ k + rm.cells ≤ mc ∧ n + rm.slots ≤ ms ∧ jj_wt rest ≤ 8) (hfb : fb = true → jj_Fr X) (hτ : τ b = some (.inl ci)) (hc : jj_cl[ci]? = some (C, T, N)) (hst : st = As.reverse ++ jR (some b) :: rest) (kk : ∀ (v : Option jj_v) (τ' : jj_T) (I' : jj_I) (L' : jj_L) (r' : jj_R), P v τ' I' L' r' → kk_J X o Q (k + rm.cells) (n + rm.slots) (pc + 5) ls (v.toList ++ rest) τ' I' L' r') (kx : ∀ (a : Nat) (τ' : jj_T) (I' : jj_I) (L' : jj_L) (r' : jj_R), PX a τ' I' L' r' → kk_JT X o Q (k + rm.cells) (n + rm.slots) pc ls a τ' I' L' r') : kk_J X o Q k n pc ls st τ I L r := by
  obtain ⟨⟨l, D, aC, ad0, A, sa⟩, p, e, R, s, m, args, below, meth, c⟩ := X
  intro ad ha9 hW hls hst9 H locs la hl hV hS
  have hsp : kk_vs τ (jR (some b) :: As) ∧ kk_vs τ rest := by
    rw [hst] at hst9
    exact ⟨⟨(kk_apr hst9).2.1, kk_rev (kk_apr hst9).1⟩, (kk_apr hst9).2.2⟩
  obtain ⟨hsa, hrs⟩ := hsp
  have hM := hM ad hW.self hsa
  have hX' := hX.1
  obtain ⟨hx, hb, hml, hown, hts, hK, hTw, hFw, hSt, hlk, hRf, hRl, hRc, hRs⟩ := hX'
  obtain ⟨hn1, hn2, hn3, hn4, hn5⟩ := hn
  have hfl : rm.frames + 1 ≤ R.frames ∧ 8 + (maxL + 11) + rm.locals ≤ R.locals := ⟨by rw [hRf]; exact hn1, by rw [hRl]; exact hn2⟩
  have hcs : k + rm.cells ≤ R.cells ∧ n + rm.slots ≤ R.slots := ⟨by rw [hRc]; exact hn3, by rw [hRs]; exact hn4⟩
  have hw8 : 2 * (F0 m pc la (st.map (jj_c ad))).monitorRoom + ((rest.map (jj_c ad)).map fun v => v.category).sum ≤ 8 := lv_room (by rw [jj_wtc]; exact hn5)
  obtain ⟨q, h1, cell, q1, q2, q3, q4⟩ := hV.1 b _ hτ
  cases h1.symm.trans hc
  have hKn := hK.1 ci _ hc
  have hrecv : ∃ cellB : Cell, H[ad b]? = some cellB ∧ cellB.vm.isStatics = false ∧ s.vm.findClass C = some cellB.cls := ⟨cell, q1, by rw [q3]; rfl, by rw [q2]; exact hKn.2.1⟩
  refine kk_after5 (l := l) (D := D) (aC := aC) (ad := ad) (ad0 := ad0) (A := A) (sa := sa) (P := P) (PX := PX) (rest := rest) (τ := τ) (o := o) (vy_runF (C := C) (x := x) (bytes := bytes) (maxL := maxL) (ret := ret) (As := As.map (jj_c ad)) hKn.2 ⟨hx, hb, hml, hown, hts⟩ hM (va_cwF As.length hts hw rfl rfl rfl (hFw _ hw2) hy hfl) ⟨kk_blind (l, D, aC, ad, A, sa) _ τ I L r (fun H => (fb = true → ∀ q, H.size ≤ q → A q) ∧ ∀ i, i ≤ 6 → sa i < H.size), hrecv, fun U hU hw9 => ⟨by rw [List.map_cons]; rfl, kk_pre hX hV hS hfb hU hw9⟩⟩ rfl (by simp) (hl.1.trans hml) (by show st.map (jj_c ad) = _; rw [hst]; simp [List.map_append, List.map_reverse, jj_c, va_rf]) hw8 hdg hcs) hl hS ha9 hW hls hrs kk kx
theorem kk_callVX (hX : kk_ok X cc own nL fr lo mc ms) {hh : List (Nat × Nat × Nat × Nat)} (hM : kk_M X.1 y (wsW_ y bytes maxL ret hh) rm (jR (some b) :: As) fb τ I L r P PX) (hdg : decode cc pc = .ok (.invokevirtual idx, 3)) (hw : GoodIn lw_all (wsV own idx C y (wsW_ y bytes maxL ret hh))) (hyC : y.cls = C) (hy : y.cls ≠ "java/lang/invoke/MethodHandle" ∧ y.cls ≠ "java/lang/invoke/VarHandle" ∧ (parseMethodDescriptor y.desc).map (fun d => d.parameters.length) = some As.length) (hn : rm.frames + 1 ≤ fr ∧ 8 + (maxL + 11) + rm.locals ≤ lo ∧ k + rm.cells ≤ mc ∧ n + rm.slots ≤ ms ∧ jj_wt rest ≤ 8) (hfb : fb = true → jj_Fr X) (hτ : τ b = some (.inl ci)) (hc : jj_cl[ci]? = some (C, T, N)) (hst : st = As.reverse ++ jR (some b) :: rest) (kk : ∀ (v : Option jj_v) (τ' : jj_T) (I' : jj_I) (L' : jj_L) (r' : jj_R), P v τ' I' L' r' → kk_J X o Q (k + rm.cells) (n + rm.slots) (pc + 3) ls (v.toList ++ rest) τ' I' L' r') (kx : ∀ (a : Nat) (τ' : jj_T) (I' : jj_I) (L' : jj_L) (r' : jj_R), PX a τ' I' L' r' → kk_JT X o Q (k + rm.cells) (n + rm.slots) pc ls a τ' I' L' r') : kk_J X o Q k n pc ls st τ I L r := by
  obtain ⟨⟨l, D, aC, ad0, A, sa⟩, p, e, R, s, m, args, below, meth, c⟩ := X
  intro ad ha9 hW hls hst9 H locs la hl hV hS
  have hsp : kk_vs τ (jR (some b) :: As) ∧ kk_vs τ rest := by
    rw [hst] at hst9
    exact ⟨⟨(kk_apr hst9).2.1, kk_rev (kk_apr hst9).1⟩, (kk_apr hst9).2.2⟩
  obtain ⟨hsa, hrs⟩ := hsp
  have hM := hM ad hW.self hsa
  have hX' := hX.1
  obtain ⟨hx, hb, hml, hown, hts, hK, hTw, hFw, hSt, hlk, hRf, hRl, hRc, hRs⟩ := hX'
  obtain ⟨hn1, hn2, hn3, hn4, hn5⟩ := hn
  have hfl : rm.frames + 1 ≤ R.frames ∧ 8 + (maxL + 11) + rm.locals ≤ R.locals := ⟨by rw [hRf]; exact hn1, by rw [hRl]; exact hn2⟩
  have hcs : k + rm.cells ≤ R.cells ∧ n + rm.slots ≤ R.slots := ⟨by rw [hRc]; exact hn3, by rw [hRs]; exact hn4⟩
  have hw8 : 2 * (F0 m pc la (st.map (jj_c ad))).monitorRoom + ((rest.map (jj_c ad)).map fun v => v.category).sum ≤ 8 := lv_room (by rw [jj_wtc]; exact hn5)
  obtain ⟨q, h1, cell, q1, q2, q3, q4⟩ := hV.1 b _ hτ
  cases h1.symm.trans hc
  have hKn := hK.1 ci _ hc
  have hrecv : ∃ cellB : Cell, H[ad b]? = some cellB ∧ cellB.vm.isStatics = false ∧ s.vm.findClass C = some cellB.cls := ⟨cell, q1, by rw [q3]; rfl, by rw [q2]; exact hKn.2.1⟩
  refine kk_after (l := l) (D := D) (aC := aC) (ad := ad) (ad0 := ad0) (A := A) (sa := sa) (P := P) (PX := PX) (rest := rest) (τ := τ) (o := o) (vy_runVX (C := C) (bytes := bytes) (maxL := maxL) (ret := ret) (hh := hh) (As := As.map (jj_c ad)) ⟨hx, hb, hml, hown, hts⟩ hM (vy_cwVW As.length hts hw rfl rfl rfl ⟨hyC, hy⟩ hfl) ⟨kk_blind (l, D, aC, ad, A, sa) _ τ I L r (fun H => (fb = true → ∀ q, H.size ≤ q → A q) ∧ ∀ i, i ≤ 6 → sa i < H.size), hrecv, fun U hU hw9 => ⟨by rw [List.map_cons]; rfl, kk_pre hX hV hS hfb hU hw9⟩⟩ rfl (by simp) (hl.1.trans hml) (by show st.map (jj_c ad) = _; rw [hst]; simp [List.map_append, List.map_reverse, jj_c, va_rf]) hw8 hdg hcs) hl hS ha9 hW hls hrs kk kx
end JC2

section JE
variable {X : jj_X} {o : jj_T} {cc : ByteArray} {own : String} {nL fr lo mc ms : Nat} {k n pc : Nat} {ls : List (Nat × jj_v)} {τ : jj_T} {I : jj_I} {L : jj_L} {r : jj_R} {P : jj_P} {PX : jj_PX}

theorem kk_iret (hX : kk_ok X cc own nL fr lo mc ms) {x : Int32} (hdg : decode cc pc = .ok (.ireturn, 1)) (hr : jj_Ret X (some .int)) (hk : k ≤ mc ∧ n ≤ ms) (h : P (some (jI x)) τ I L r) : kk_J X o (kk_End X o P PX mc ms) k n pc ls [jI x] τ I L r := by
  obtain ⟨⟨l, D, aC, ad0, A, sa⟩, p, e, R, s, m, args, below, meth, c⟩ := X
  intro ad ha9 hW hls hst H locs la hl hV hS
  refine W.widen hk.1 hk.2 ?_
  refine vy_ret ?_
  exact W.iret hX.1.1 hX.1.2.1 hr (fun t ht hA => ⟨ad, ha9, (some (jI x)), τ, I, L, r, rfl, ⟨h, hW, ⟨trivial, trivial⟩⟩, jj_endw (ad := ad) (e := e) (below := below) hX.1 hV hS ht hA⟩) hS.2.2 hdg hX.1.2.2.2.2.2.2.2.2.2.1
theorem kk_zret (hX : kk_ok X cc own nL fr lo mc ms) {x : Int32} (hdg : decode cc pc = .ok (.ireturn, 1)) (hr : jj_Ret X (some .boolean)) (hk : k ≤ mc ∧ n ≤ ms) (hz : x = 0 ∨ x = 1) (h : P (some (jI x)) τ I L r) : kk_J X o (kk_End X o P PX mc ms) k n pc ls [jI x] τ I L r := by
  obtain ⟨⟨l, D, aC, ad0, A, sa⟩, p, e, R, s, m, args, below, meth, c⟩ := X
  intro ad ha9 hW hls hst H locs la hl hV hS
  refine W.widen hk.1 hk.2 ?_
  refine vy_ret ?_
  exact W.zret hX.1.1 hX.1.2.1 hr (jj_fitZ hz).1 (fun t ht hA => ⟨ad, ha9, (some (jI x)), τ, I, L, r, rfl, ⟨h, hW, ⟨trivial, trivial⟩⟩, jj_endw (ad := ad) (e := e) (below := below) hX.1 hV hS ht hA⟩) hS.2.2 hdg hX.1.2.2.2.2.2.2.2.2.2.1
theorem kk_lret (hX : kk_ok X cc own nL fr lo mc ms) {x : Int64} (hdg : decode cc pc = .ok (.lreturn, 1)) (hr : jj_Ret X (some .long)) (hk : k ≤ mc ∧ n ≤ ms) (h : P (some (jL x)) τ I L r) : kk_J X o (kk_End X o P PX mc ms) k n pc ls [jL x] τ I L r := by
  obtain ⟨⟨l, D, aC, ad0, A, sa⟩, p, e, R, s, m, args, below, meth, c⟩ := X
  intro ad ha9 hW hls hst H locs la hl hV hS
  refine W.widen hk.1 hk.2 ?_
  refine vy_ret ?_
  exact W.lret hX.1.1 hX.1.2.1 hr (fun t ht hA => ⟨ad, ha9, (some (jL x)), τ, I, L, r, rfl, ⟨h, hW, ⟨trivial, trivial⟩⟩, jj_endw (ad := ad) (e := e) (below := below) hX.1 hV hS ht hA⟩) hS.2.2 hdg hX.1.2.2.2.2.2.2.2.2.2.1
theorem kk_vret (hX : kk_ok X cc own nL fr lo mc ms) (hdg : decode cc pc = .ok (.return_, 1)) (hr : jj_Ret X none) (hk : k ≤ mc ∧ n ≤ ms) (h : P none τ I L r) : kk_J X o (kk_End X o P PX mc ms) k n pc ls [] τ I L r := by
  obtain ⟨⟨l, D, aC, ad0, A, sa⟩, p, e, R, s, m, args, below, meth, c⟩ := X
  intro ad ha9 hW hls hst H locs la hl hV hS
  refine W.widen hk.1 hk.2 ?_
  refine vy_ret ?_
  exact W.vret hX.1.1 hX.1.2.1 hr (fun t ht hA => ⟨ad, ha9, none, τ, I, L, r, rfl, ⟨h, hW, trivial⟩, jj_endw (ad := ad) (e := e) (below := below) hX.1 hV hS ht hA⟩) hS.2.2 hdg hX.1.2.2.2.2.2.2.2.2.2.1
theorem kk_aret (hX : kk_ok X cc own nL fr lo mc ms) {x : Option Nat} {rt : FieldType} (hdg : decode cc pc = .ok (.areturn, 1)) (hr : jj_Ret X (some rt)) (hk : k ≤ mc ∧ n ≤ ms) (hrt : (∃ n, rt = .object n) ∨ ∃ t, rt = .array t) (h : P (some (jR x)) τ I L r) : kk_J X o (kk_End X o P PX mc ms) k n pc ls [jR x] τ I L r := by
  obtain ⟨⟨l, D, aC, ad0, A, sa⟩, p, e, R, s, m, args, below, meth, c⟩ := X
  intro ad ha9 hW hls hst H locs la hl hV hS
  refine W.widen hk.1 hk.2 ?_
  refine vy_ret ?_
  exact W.aret hX.1.1 hX.1.2.1 hr hrt (by cases x; exact Or.inl rfl; exact Or.inr ⟨_, rfl⟩) (fun t ht hA => ⟨ad, ha9, (some (jR x)), τ, I, L, r, rfl, ⟨h, hW, hst⟩, jj_endw (ad := ad) (e := e) (below := below) hX.1 hV hS ht hA⟩) hS.2.2 hdg hX.1.2.2.2.2.2.2.2.2.2.1

theorem kk_out (hX : kk_ok X cc own nL fr lo mc ms) (hN : jj_NoH X) {a : Nat} (hk : k ≤ mc ∧ n ≤ ms) (h : PX a τ I L r) : kk_JT X o (kk_End X o P PX mc ms) k n pc ls a τ I L r := by
  obtain ⟨⟨l, D, aC, ad0, A, sa⟩, p, e, R, s, m, args, below, meth, c⟩ := X
  intro ad ha9 hW hls H locs la rest hl hV hS hτ
  obtain ⟨q, h1, cell, q1, q2, q3, q4⟩ := hV.1 a _ hτ
  have hKn := hX.1.2.2.2.2.2.1.1 32 _ h1
  have hq1 : q.1 = "BranchCells$Failing" := by
    have h9 := h1.symm.trans jc_32
    cases h9
    rfl
  refine vy_out (E := "BranchCells$Failing") (ce := cell) (fun x hx => (hN x hx).elim) hX.1.2.2.2.2.2.2.2.2.2.1 q1 q3 (by rw [q2, ← hq1]; exact hKn.2.1) (fun t ht hA => ?_) hS.2.2 hk.1 hk.2
  exact ⟨ad, ha9, rfl, a, τ, I, L, r, rfl, hτ, ⟨h, hW⟩, jj_endw (ad := ad) (e := e) (below := below) hX.1 hV hS ht hA⟩
end JE
theorem kk_intro {G : jj_G} {y : MethodName} {cc : ByteArray} {nL : Nat} {ret : Option FieldType} {rm : Room} {As : List jj_v} {fb : Bool} {τ : jj_T} {I : jj_I} {L : jj_L} {r : jj_R} {P : jj_P} {PX : jj_PX} (own : String) (hy : plainName y.cls = true) (hown : y.cls = own) (hlen : jj_wt As ≤ nL)
    (body : ∀ X : jj_X, X.1.1 = G.1 → kk_ok X cc own nL rm.frames rm.locals rm.cells rm.slots → jj_Ret X ret → jj_NoH X → (y.name = "<init>" → jj_Ctor X) → (fb = true → jj_Fr X) → (∃ ad, X.1 = kk_G G ad) → kk_J X τ (kk_End X τ P PX rm.cells rm.slots) 0 0 0 (jj_as 0 As) [] τ I L r) : kk_M G y (ws_ y cc nL ret) rm As fb τ I L r P PX := by
  obtain ⟨l, D, aC, ad0, A, sa⟩ := G
  intro ad hW hAs
  refine vy_ofW (cc := cc) (maxL := nL) (ret := ret) hy rfl ?_
  intro p e s m args below meth c s₁ B hml hN hv
  obtain ⟨hargs, ⟨hV, hK, hTw, hFw, hSt⟩, hfr, hsz⟩ := hv
  have hts := atoms_spec (ws := ws_ y cc nL ret) B.pre
  have hts : ∀ w ∈ lw_all, w.before args s = true := fun w h => hts w (List.mem_cons_of_mem _ h)
  have hw : s.vm.findClass own = some m.cls := by rw [← hown]; exact findClass_of_methodNamed B.named
  have k := body ((l, D, aC, ad, A, sa), p, e, (headSpec (ws_ y cc nL ret) rm).room, s, m, args, below, meth, c) rfl ⟨⟨B.exec, B.bytes, hml, hw, hts, hK, hTw, hFw, hSt, B.notSynchronized, rfl, rfl, rfl, rfl⟩, hsz⟩ B.returns hN (fun h => (name_of_methodNamed B.named B.method).1.trans h) hfr ⟨ad, rfl⟩
  have hl := lv_entry (As.map (jj_c ad)) (n := nL) (by rw [jj_sll]; exact hlen)
  rw [jj_mas] at hl
  rw [hargs, lg_entry_eq]
  have hl2 : lv_has ((lg_sl (As.map (jj_c ad)) ++ List.replicate (nL - (lg_sl (As.map (jj_c ad))).length) Slot.unset).toArray) c.maxLocals (jj_ml ad (jj_as 0 As)) := by rw [hml]; exact hl
  have hls : ∀ (As : List jj_v) (i : Nat), kk_vs τ As → kk_ls τ (jj_as i As) := by
    intro As
    induction As with
    | nil => intro i _; trivial
    | cons u t ih => intro i h; exact ⟨h.1, ih _ h.2⟩
  rw [hargs] at k
  exact k ad (fun _ _ => rfl) hW (hls As 0 hAs) trivial s.heap [] _ hl2 hV va_S.rf
theorem kk_introW {G : jj_G} {y : MethodName} {cc : ByteArray} {nL : Nat} {ret : Option FieldType} {hh : List (Nat × Nat × Nat × Nat)} {rm : Room} {As : List jj_v} {fb : Bool} {τ : jj_T} {I : jj_I} {L : jj_L} {r : jj_R} {P : jj_P} {PX : jj_PX} (own : String) (hy : plainName y.cls = true) (hown : y.cls = own) (hlen : jj_wt As ≤ nL)
    (body : ∀ X : jj_X, X.1.1 = G.1 → kk_ok X cc own nL rm.frames rm.locals rm.cells rm.slots → jj_Ret X ret → jj_Tbl X (tableOf hh) → (fb = true → jj_Fr X) → (∃ ad, X.1 = kk_G G ad) → kk_J X τ (kk_End X τ P PX rm.cells rm.slots) 0 0 0 (jj_as 0 As) [] τ I L r) : kk_M G y (wsW_ y cc nL ret hh) rm As fb τ I L r P PX := by
  obtain ⟨l, D, aC, ad0, A, sa⟩ := G
  intro ad hW hAs
  refine vy_ofWH (cc := cc) (maxL := nL) (ret := ret) hy rfl ?_
  intro p e s m args below meth c s₁ B hml hv
  obtain ⟨hargs, ⟨hV, hK, hTw, hFw, hSt⟩, hfr, hsz⟩ := hv
  have hts0 := atoms_spec (ws := wsW_ y cc nL ret hh) B.pre
  have hts : ∀ w ∈ lw_all, w.before args s = true := fun w h => hts0 w (List.mem_cons_of_mem _ h)
  have hw : s.vm.findClass own = some m.cls := by rw [← hown]; exact findClass_of_methodNamed B.named
  have htb : c.exceptionTable.toList = tableOf hh := vy_table (x := y) B (hts0 _ List.mem_cons_self)
  have k := body ((l, D, aC, ad, A, sa), p, e, (headSpec (wsW_ y cc nL ret hh) rm).room, s, m, args, below, meth, c) rfl ⟨⟨B.exec, B.bytes, hml, hw, hts, hK, hTw, hFw, hSt, B.notSynchronized, rfl, rfl, rfl, rfl⟩, hsz⟩ B.returns htb hfr ⟨ad, rfl⟩
  have hl := lv_entry (As.map (jj_c ad)) (n := nL) (by rw [jj_sll]; exact hlen)
  rw [jj_mas] at hl
  rw [hargs, lg_entry_eq]
  have hl2 : lv_has ((lg_sl (As.map (jj_c ad)) ++ List.replicate (nL - (lg_sl (As.map (jj_c ad))).length) Slot.unset).toArray) c.maxLocals (jj_ml ad (jj_as 0 As)) := by rw [hml]; exact hl
  have hls : ∀ (As : List jj_v) (i : Nat), kk_vs τ As → kk_ls τ (jj_as i As) := by
    intro As
    induction As with
    | nil => intro i _; trivial
    | cons u t ih => intro i h; exact ⟨h.1, ih _ h.2⟩
  rw [hargs] at k
  exact k ad (fun _ _ => rfl) hW (hls As 0 hAs) trivial s.heap [] _ hl2 hV va_S.rf
/-- contracts don't look where the things lie -/
theorem kk_M.ad {G : jj_G} {y : MethodName} {ws : List Cond} {rm : Room} {As : List jj_v} {fr : Bool} {τ : jj_T} {I : jj_I} {L : jj_L} {r : jj_R} {P : jj_P} {PX : jj_PX} (ad : Nat → Nat) (h : kk_M G y ws rm As fr τ I L r P PX) : kk_M (kk_G G ad) y ws rm As fr τ I L r P PX := h

