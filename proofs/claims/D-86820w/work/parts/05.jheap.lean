set_option maxRecDepth 100000

theorem jj_apart {args : Array Value} {s : State} {D : va_G} {aC : Nat → ClassId} (hts : ∀ w ∈ lw_all, w.before args s = true) (hK : jj_K D aC s) {ci : Nat} {q : vw_C} (hc : jj_cl[ci]? = some q) : ∀ x y, x < q.2.2 → y < q.2.2 → x ≠ y → D.2 ci x ≠ D.2 ci y := by
  intro x y hx hy hne
  obtain ⟨hS, -⟩ := hK.1 ci q hc
  obtain ⟨ca, ka, ia, fa, hia, ea⟩ := hS x hx
  obtain ⟨cb, kb, ib, fb, hib, eb⟩ := hS y hy
  rw [← ea, ← eb]
  rcases jj_nm ci q hc x hx y hy hne with h | ⟨h1, h2, h3⟩
  · refine u_apart (u_lays hts (jj_in ci q hc) hx) (u_lays hts (jj_in ci q hc) hy) hia hib ?_
    rw [(State.fieldFound?_type hia (jj_tok ci q hc x hx)).1, (State.fieldFound?_type hib (jj_tok ci q hc y hy)).1]
    exact h
  · have hlx := hts _ (jj_in ci q hc _ (u_in_lay hx))
    have hly := hts _ (jj_in ci q hc _ (u_in_lay hy))
    unfold u_lay at hlx hly
    rw [if_pos h2] at hlx
    rw [if_pos h3] at hly
    obtain ⟨a, k, c', k', i', f', r1, r2, r3, -, -, -, r4, -, d, hd, hdn, -⟩ := Cond.laysFinal_spec hlx
    obtain ⟨a2, k2, c2', k2', i2', f2', r12, r22, r32, -, -, -, r42, -, d2, hd2, hdn2, -⟩ := Cond.laysFinal_spec hly
    cases hia.symm.trans r3
    cases hib.symm.trans r32
    cases r1.symm.trans r12
    intro hs
    rw [hs] at hd
    cases hd.symm.trans hd2
    obtain ⟨ka', e1, e2⟩ := Vm.findClass_spec r4
    obtain ⟨kb', e3, e4⟩ := Vm.findClass_spec r42
    cases e1.symm.trans (State.fieldFound?_spec hia).1
    cases e3.symm.trans (State.fieldFound?_spec hib).1
    exact h1 (by rw [← e2, ← e4, ← hdn, ← hdn2])
/-- a field's link: the class that speaks, the entry; the class's number, the field's; final or not -/
def jj_FL (own : String) (idx ci f : Nat) (fin : Bool) : Prop := ∃ (C : String) (T : u_T) (N : Nat) (ref : String), jj_cl[ci]? = some (C, T, N) ∧ f < N ∧ (T f).2.2.2 = fin ∧ (ref = (T f).1 ∨ Cond.sameField ref (T f).1 (T f).2.1 (T f).2.2.1 ∈ lw_all) ∧ (Cond.fieldLink own idx ref (T f).2.1 (T f).2.2.1 ∈ lw_all ∨ ∃ host, Cond.fieldLinkNest own idx ref (T f).2.1 (T f).2.2.1 host ∈ jj_tw)
theorem jj_getW {l : Launch} {D : va_G} {aC : Nat → ClassId} {ad : Nat → Nat} {A : Nat → Prop} {sa : Nat → Nat} {p : Program} {e : Env} {R : Room} {s : State} {m : MethodId} {args : Array Value} {below : List Frame} {meth : Method} {c : Code} {cc : ByteArray} {own : String} {nL fr lo mc ms : Nat} (hX : jj_ok ((l, D, aC, ad, A, sa), p, e, R, s, m, args, below, meth, c) cc own nL fr lo mc ms)
    {idx ci f : Nat} {fin : Bool} (hF : jj_FL own idx ci f fin) {τ : jj_T} {I : jj_I} {L : jj_L} {r : jj_R} {a : Nat} (hτ : τ a = some (.inl ci)) {pc k n : Nat} {Q : State → Prop} (hdg : decode cc pc = .ok (.getfield idx, 3)) {H : Heap} {locs : List Loc} {la : Array Slot} {st : List Value} (hV : jj_V D aC ad A τ I L r H)
    (kk : W p l e R s m args below meth c H locs k n Q (F0 m (pc + 3) la (jj_fv (jj_kd (jj_ty ci f)) ad (I a f) (L a f) (r a f) :: st))) : W p l e R s m args below meth c H locs k n Q (F0 m pc la (.ref (ad a) :: st)) := by
  obtain ⟨hx, hb, -, hown, hts, hK, hTw, -⟩ := hX
  obtain ⟨C, T, N, ref, hc, hk, -, href, hlink⟩ := hF
  obtain ⟨q, h1, cell, q1, q2, q3, q4⟩ := hV.1 a _ hτ
  cases h1.symm.trans hc
  obtain ⟨hS, hfc, kC, hkC, hkind⟩ := hK.1 ci _ hc
  obtain ⟨cf, kf, fi, fd, hi, hsl⟩ := hS f hk
  have hst := (u_facts hfc hkC (u_lays hts (jj_in ci _ hc) hk) hi).1
  have hi' : s.fieldFound? ref (T f).2.1 (T f).2.2.1 = some (cf, kf, fi, fd) := by
    rcases href with rfl | hw
    · exact hi
    · exact u_same (hts _ hw) _ hi
  have hslot : cell.slots[fd.slot]? = some (jj_fv (jj_kd (jj_ty ci f)) ad (I a f) (L a f) (r a f)) := by rw [hsl]; exact q4 f hk
  rcases hlink with hl | ⟨host, hl⟩
  · exact W.getf hx hb hown (hts _ hl) hi' hst q1 (by rw [q3]; exact fun h => by cases h) hslot rfl rfl hdg kk
  · exact va_Wgetf hx hb hown (va_Nw.use rfl (hTw _ hl)) hi' hst q1 (by rw [q3]; exact fun h => by cases h) hslot rfl rfl hdg kk
/-- one cell of the memory is written -/
theorem jj_V.put {D : va_G} {aC : Nat → ClassId} {ad : Nat → Nat} {A : Nat → Prop} {τ : jj_T} {I I' : jj_I} {L L' : jj_L} {r r' : jj_R} {H H' : Heap} (hV : jj_V D aC ad A τ I L r H) {a : Nat} {t : Nat ⊕ (Nat × Nat)} (hτ : τ a = some t) (ha : jj_at D aC ad I' L' r' a t H') (oq : ∀ q, q ≠ ad a → H'[q]? = H[q]?)
    (hI : ∀ b, b ≠ a → I' b = I b) (hL : ∀ b, b ≠ a → L' b = L b) (hr : ∀ b, b ≠ a → r' b = r b) : jj_V D aC ad A τ I' L' r' H' := by
  refine ⟨fun b tb hb => ?_, hV.2.1, hV.2.2⟩
  by_cases hab : b = a
  · subst hab
    cases hτ.symm.trans hb
    exact ha
  · have h := hV.1 b tb hb
    have hne : ad b ≠ ad a := fun q => hab (hV.2.1 b a (by rw [hb]; exact fun z => by cases z) (by rw [hτ]; exact fun z => by cases z) q)
    have h2 := oq (ad b) hne
    cases tb with
    | inl ci =>
      obtain ⟨q, h3, h4⟩ := h
      refine ⟨q, h3, ?_⟩
      rw [hI b hab, hL b hab, hr b hab]
      exact h4.kept h2
    | inr tn =>
      obtain ⟨h3, h4⟩ := h
      refine ⟨h3, ?_⟩
      rw [hI b hab, hL b hab, hr b hab]
      exact h2.trans h4
theorem jj_V.S {A : Nat → Prop} {H0 H H' : Heap} {locs : List Loc} {a j : Nat} (hS : va_S A H0 H locs) (hA : A a) (z : H'.size = H.size) (oq : ∀ q, q ≠ a → H'[q]? = H[q]?) : va_S A H0 H' (locs ++ [⟨a, j⟩]) := hS.put z oq hA
/-- a field is written: what the heap is then -/
theorem jj_putW {l : Launch} {D : va_G} {aC : Nat → ClassId} {ad : Nat → Nat} {A : Nat → Prop} {sa : Nat → Nat} {p : Program} {e : Env} {R : Room} {s : State} {m : MethodId} {args : Array Value} {below : List Frame} {meth : Method} {c : Code} {cc : ByteArray} {own : String} {nL fr lo mc ms : Nat} (hX : jj_ok ((l, D, aC, ad, A, sa), p, e, R, s, m, args, below, meth, c) cc own nL fr lo mc ms)
    {idx ci f : Nat} {fin : Bool} (hF : jj_FL own idx ci f fin) (hfin : fin = false ∨ (meth.name = "<init>" ∧ ∃ q : vw_C, jj_cl[ci]? = some q ∧ (q.2.1 f).1 = own)) {τ : jj_T} {I I' : jj_I} {L L' : jj_L} {r r' : jj_R} {a : Nat} (hτ : τ a = some (.inl ci)) {v : Value} (hn : narrow (jj_ty ci f) v = v) (hfit : fits (jj_ty ci f) v = true)
    (hv : v = jj_fv (jj_kd (jj_ty ci f)) ad (I' a f) (L' a f) (r' a f)) (ho : ∀ j, j ≠ f → jj_fv (jj_kd (jj_ty ci j)) ad (I a j) (L a j) (r a j) = jj_fv (jj_kd (jj_ty ci j)) ad (I' a j) (L' a j) (r' a j)) (hI : ∀ b, b ≠ a → I' b = I b) (hL : ∀ b, b ≠ a → L' b = L b) (hr : ∀ b, b ≠ a → r' b = r b)
    {pc k n : Nat} {Q : State → Prop} (hdg : decode cc pc = .ok (.putfield idx, 3)) {H : Heap} {locs : List Loc} {la : Array Slot} {st : List Value} (hV : jj_V D aC ad A τ I L r H) (hS : va_S A s.heap H locs)
    (kk : ∀ (H' : Heap) (locs' : List Loc), jj_V D aC ad A τ I' L' r' H' → va_S A s.heap H' locs' → W p l e R s m args below meth c H' locs' k n Q (F0 m (pc + 3) la st)) : W p l e R s m args below meth c H locs k n Q (F0 m pc la (v :: .ref (ad a) :: st)) := by
  obtain ⟨hx, hb, -, hown, hts, hK, hTw, -⟩ := hX
  obtain ⟨C, T, N, ref, hc, hk, hff, href, hlink⟩ := hF
  have hap := jj_apart hts hK hc
  obtain ⟨q, h1, cell, q1, q2, q3, q4⟩ := hV.1 a _ hτ
  cases h1.symm.trans hc
  obtain ⟨hSl, hfc, kC, hkC, hkind⟩ := hK.1 ci _ hc
  obtain ⟨cf, kf, fi, fd, hi, hsl⟩ := hSl f hk
  have hlay := hts _ (jj_in ci _ hc _ (u_in_lay hk))
  have hst := (u_facts hfc hkC (u_lays hts (jj_in ci _ hc) hk) hi).1
  have hi' : s.fieldFound? ref (T f).2.1 (T f).2.2.1 = some (cf, kf, fi, fd) := by
    rcases href with rfl | hw
    · exact hi
    · exact u_same (hts _ hw) _ hi
  have hd := jj_tok ci _ hc f hk
  have hA := hV.2.2 a _ hτ (fun z => by cases z)
  have fin1 : ∀ (H' : Heap), H'[ad a]? = some (cell.setSlot fd.slot v) → H'.size = H.size → (∀ q, q ≠ ad a → H'[q]? = H[q]?) → W p l e R s m args below meth c H' (locs ++ [⟨ad a, fd.slot⟩]) k n Q (F0 m (pc + 3) la st) := by
    intro H' e1 e2 e3
    refine kk H' _ (hV.put hτ ⟨_, hc, ?_⟩ e3 hI hL hr) (hS.put e2 e3 hA)
    rw [hsl] at e1
    refine t_OB.to (V := updV (fun j => jj_fv (jj_kd (jj_ty ci j)) ad (I a j) (L a j) (r a j)) f v) ⟨_, e1, q2, q3, t_set q4 hap hk v⟩ (fun j _ => ?_)
    by_cases hj : j = f
    · subst hj
      simp [updV, hv]
    · simp [updV, hj, ho j hj]
  cases hfb : fin with
  | false =>
    rw [hfb] at hff
    unfold u_lay at hlay
    rw [if_neg (by rw [hff]; decide)] at hlay
    have h6 := u_store hfc hkC hkind hlay hi hd hn hfit
    rcases hlink with hl | ⟨host, hl⟩
    · exact W.putK hx hb (f := fd) ⟨hown, hts _ hl, ⟨_, _, _, hi'⟩, hst⟩ (by rw [q2]; exact h6) q1 q3 (by rw [hsl]; exact k2_hasslot (q4 f hk)) rfl rfl hdg fin1
    · exact va_WputK hx hb (f := fd) hown (va_Nw.use rfl (hTw _ hl)) hi' hst (by rw [q2]; exact h6) q1 q3 (by rw [hsl]; exact k2_hasslot (q4 f hk)) rfl rfl hdg fin1
  | true =>
    rw [hfb] at hff
    rcases hfin with h | ⟨hin2, q', hq', hdecl⟩
    · rw [hfb] at h; cases h
    · cases hq'.symm.trans hc
      unfold u_lay at hlay
      rw [if_pos hff] at hlay
      have hcf : m.cls = cf := by
        obtain ⟨_, _, c', _, _, _, -, -, hf', -, -, -, hown2, -⟩ := Cond.laysFinal_spec hlay
        have e1 : c' = cf := by have := hi.symm.trans hf'; simp at this; exact this.1.symm
        rw [show (T f).1 = own from hdecl] at hown2
        rw [← e1]; exact Option.some.inj (hown.symm.trans hown2)
      have h6 := u_fits hfc hkC hkind (Or.inr hlay) hi hd hn hfit
      rcases hlink with hl | ⟨host, hl⟩
      · exact W.putFinK hx hb hown (hts _ hl) hi' hst hcf hin2 (by rw [q2]; exact h6) q1 q3 (by rw [hsl]; exact k2_hasslot (q4 f hk)) rfl rfl hdg fin1
      · have ha : ad a < H.size := (Array.getElem?_eq_some_iff.mp q1).1
        refine va_Wputf hx hb hown (va_Nw.use rfl (hTw _ hl)) hi' hst (Or.inr ⟨hcf, hin2⟩) q1 (by rw [q3]; exact fun h => by cases h) (by rw [hsl]; exact k2_hasslot (q4 f hk)) h6.1 (by rw [q3, q2]; exact h6.2) rfl rfl hdg ?_
        refine fin1 _ ?_ ?_ ?_
        · simp [Array.getElem?_setIfInBounds, ha]
        · simp
        · intro q hq
          simp [Array.getElem?_setIfInBounds, Ne.symm hq]
theorem jj_fitR {t : FieldType} (ht : jj_kd t = 2) (x : Option Nat) : narrow t (va_rf x) = va_rf x ∧ fits t (va_rf x) = true := by
  cases t <;> simp only [jj_kd] at ht
  all_goals first | (exfalso; omega) | (cases x <;> exact ⟨rfl, rfl⟩)
theorem jj_fitL {t : FieldType} (ht : jj_kd t = 1) (x : Int64) : narrow t (.long x) = .long x ∧ fits t (.long x) = true := by
  cases t <;> simp only [jj_kd] at ht
  all_goals first | (exfalso; omega) | exact ⟨rfl, rfl⟩
theorem jj_fitZ {x : Int32} (h : x = 0 ∨ x = 1) : narrow .boolean (.int x) = .int x ∧ fits .boolean (.int x) = true := by
  rcases h with rfl | rfl <;> exact ⟨rfl, rfl⟩

section JH
variable {X : jj_X} {cc : ByteArray} {own : String} {nL fr lo mc ms : Nat} {Q : State → Prop} {k n pc : Nat} {ls : List (Nat × jj_v)} {st : List jj_v} {τ : jj_T} {I : jj_I} {L : jj_L} {r : jj_R}
theorem jj_getI (hX : jj_ok X cc own nL fr lo mc ms) {idx ci f a : Nat} {fin : Bool} (hF : jj_FL own idx ci f fin) (hdg : decode cc pc = .ok (.getfield idx, 3)) (hτ : τ a = some (.inl ci)) (ht : jj_kd (jj_ty ci f) = 0) (kk : jj_J X Q k n (pc + 3) ls (jI (I a f) :: st) τ I L r) : jj_J X Q k n pc ls (jR (some a) :: st) τ I L r := by
  obtain ⟨⟨l, D, aC, ad, A, sa⟩, p, e, R, s, m, args, below, meth, c⟩ := X
  intro H locs la hl hV hS
  refine jj_getW hX hF hτ hdg hV ?_
  rw [ht]
  exact kk H locs la hl hV hS
theorem jj_getL (hX : jj_ok X cc own nL fr lo mc ms) {idx ci f a : Nat} {fin : Bool} (hF : jj_FL own idx ci f fin) (hdg : decode cc pc = .ok (.getfield idx, 3)) (hτ : τ a = some (.inl ci)) (ht : jj_kd (jj_ty ci f) = 1) (kk : jj_J X Q k n (pc + 3) ls (jL (L a f) :: st) τ I L r) : jj_J X Q k n pc ls (jR (some a) :: st) τ I L r := by
  obtain ⟨⟨l, D, aC, ad, A, sa⟩, p, e, R, s, m, args, below, meth, c⟩ := X
  intro H locs la hl hV hS
  refine jj_getW hX hF hτ hdg hV ?_
  rw [ht]
  exact kk H locs la hl hV hS
theorem jj_getR (hX : jj_ok X cc own nL fr lo mc ms) {idx ci f a : Nat} {fin : Bool} (hF : jj_FL own idx ci f fin) (hdg : decode cc pc = .ok (.getfield idx, 3)) (hτ : τ a = some (.inl ci)) {x : Option Nat} (ht : jj_kd (jj_ty ci f) = 2) (hx : r a f = x) (kk : jj_J X Q k n (pc + 3) ls (jR x :: st) τ I L r) : jj_J X Q k n pc ls (jR (some a) :: st) τ I L r := by
  obtain ⟨⟨l, D, aC, ad, A, sa⟩, p, e, R, s, m, args, below, meth, c⟩ := X
  intro H locs la hl hV hS
  refine jj_getW hX hF hτ hdg hV ?_
  rw [ht, hx]
  exact kk H locs la hl hV hS
theorem jj_putI (hX : jj_ok X cc own nL fr lo mc ms) {idx ci f a : Nat} (hF : jj_FL own idx ci f false) (hdg : decode cc pc = .ok (.putfield idx, 3)) (hτ : τ a = some (.inl ci)) {x : Int32} (ht : jj_kd (jj_ty ci f) = 0) (hi : jj_ty ci f = .int) (kk : jj_J X Q k n (pc + 3) ls st τ (jj_u I a f x) L r) : jj_J X Q k n pc ls (jI x :: jR (some a) :: st) τ I L r := by
  obtain ⟨⟨l, D, aC, ad, A, sa⟩, p, e, R, s, m, args, below, meth, c⟩ := X
  intro H locs la hl hV hS
  obtain ⟨hn, hf⟩ : narrow (jj_ty ci f) (.int x) = .int x ∧ fits (jj_ty ci f) (.int x) = true := by rw [hi]; exact ⟨rfl, rfl⟩
  refine jj_putW (I' := (jj_u I a f x)) (L' := L) (r' := r) hX hF (Or.inl rfl) hτ hn hf ?_ ?_ ?_ ?_ ?_ hdg hV hS (fun H locs hV hS => kk H locs la hl hV hS)
  · rw [ht]; simp [jj_fv, jj_us]
  · intro j hj; simp only [jj_un (Or.inr hj)]
  · intro b hb; exact jj_ua hb
  · intro b hb; rfl
  · intro b hb; rfl

theorem jj_putZ (hX : jj_ok X cc own nL fr lo mc ms) {idx ci f a : Nat} (hF : jj_FL own idx ci f false) (hdg : decode cc pc = .ok (.putfield idx, 3)) (hτ : τ a = some (.inl ci)) {x : Int32} (ht : jj_kd (jj_ty ci f) = 0) (hi : jj_ty ci f = .boolean) (hz : x = 0 ∨ x = 1) (kk : jj_J X Q k n (pc + 3) ls st τ (jj_u I a f x) L r) : jj_J X Q k n pc ls (jI x :: jR (some a) :: st) τ I L r := by
  obtain ⟨⟨l, D, aC, ad, A, sa⟩, p, e, R, s, m, args, below, meth, c⟩ := X
  intro H locs la hl hV hS
  obtain ⟨hn, hf⟩ : narrow (jj_ty ci f) (.int x) = .int x ∧ fits (jj_ty ci f) (.int x) = true := by rw [hi]; exact jj_fitZ hz
  refine jj_putW (I' := (jj_u I a f x)) (L' := L) (r' := r) hX hF (Or.inl rfl) hτ hn hf ?_ ?_ ?_ ?_ ?_ hdg hV hS (fun H locs hV hS => kk H locs la hl hV hS)
  · rw [ht]; simp [jj_fv, jj_us]
  · intro j hj; simp only [jj_un (Or.inr hj)]
  · intro b hb; exact jj_ua hb
  · intro b hb; rfl
  · intro b hb; rfl

theorem jj_putL (hX : jj_ok X cc own nL fr lo mc ms) {idx ci f a : Nat} (hF : jj_FL own idx ci f false) (hdg : decode cc pc = .ok (.putfield idx, 3)) (hτ : τ a = some (.inl ci)) {x : Int64} (ht : jj_kd (jj_ty ci f) = 1) (kk : jj_J X Q k n (pc + 3) ls st τ I (jj_u L a f x) r) : jj_J X Q k n pc ls (jL x :: jR (some a) :: st) τ I L r := by
  obtain ⟨⟨l, D, aC, ad, A, sa⟩, p, e, R, s, m, args, below, meth, c⟩ := X
  intro H locs la hl hV hS
  obtain ⟨hn, hf⟩ := jj_fitL ht x
  refine jj_putW (I' := I) (L' := (jj_u L a f x)) (r' := r) hX hF (Or.inl rfl) hτ hn hf ?_ ?_ ?_ ?_ ?_ hdg hV hS (fun H locs hV hS => kk H locs la hl hV hS)
  · rw [ht]; simp [jj_fv, jj_us]
  · intro j hj; simp only [jj_un (Or.inr hj)]
  · intro b hb; rfl
  · intro b hb; exact jj_ua hb
  · intro b hb; rfl

theorem jj_putR (hX : jj_ok X cc own nL fr lo mc ms) {idx ci f a : Nat} (hF : jj_FL own idx ci f false) (hdg : decode cc pc = .ok (.putfield idx, 3)) (hτ : τ a = some (.inl ci)) {x : Option Nat} (ht : jj_kd (jj_ty ci f) = 2) (kk : jj_J X Q k n (pc + 3) ls st τ I L (jj_u r a f x)) : jj_J X Q k n pc ls (jR x :: jR (some a) :: st) τ I L r := by
  obtain ⟨⟨l, D, aC, ad, A, sa⟩, p, e, R, s, m, args, below, meth, c⟩ := X
  intro H locs la hl hV hS
  obtain ⟨hn, hf⟩ := jj_fitR ht (x.map ad)
  refine jj_putW (I' := I) (L' := L) (r' := (jj_u r a f x)) hX hF (Or.inl rfl) hτ hn hf ?_ ?_ ?_ ?_ ?_ hdg hV hS (fun H locs hV hS => kk H locs la hl hV hS)
  · rw [ht]; simp [jj_fv, jj_us]
  · intro j hj; simp only [jj_un (Or.inr hj)]
  · intro b hb; rfl
  · intro b hb; rfl
  · intro b hb; exact jj_ua hb

theorem jj_putIF (hX : jj_ok X cc own nL fr lo mc ms) {idx ci f a : Nat} (hin : jj_Ctor X) (hF : jj_FL own idx ci f true) (hO : ∃ q : vw_C, jj_cl[ci]? = some q ∧ (q.2.1 f).1 = own) (hdg : decode cc pc = .ok (.putfield idx, 3)) (hτ : τ a = some (.inl ci)) {x : Int32} (ht : jj_kd (jj_ty ci f) = 0) (hi : jj_ty ci f = .int) (kk : jj_J X Q k n (pc + 3) ls st τ (jj_u I a f x) L r) : jj_J X Q k n pc ls (jI x :: jR (some a) :: st) τ I L r := by
  obtain ⟨⟨l, D, aC, ad, A, sa⟩, p, e, R, s, m, args, below, meth, c⟩ := X
  intro H locs la hl hV hS
  obtain ⟨hn, hf⟩ : narrow (jj_ty ci f) (.int x) = .int x ∧ fits (jj_ty ci f) (.int x) = true := by rw [hi]; exact ⟨rfl, rfl⟩
  refine jj_putW (I' := (jj_u I a f x)) (L' := L) (r' := r) hX hF (Or.inr ⟨hin, hO⟩) hτ hn hf ?_ ?_ ?_ ?_ ?_ hdg hV hS (fun H locs hV hS => kk H locs la hl hV hS)
  · rw [ht]; simp [jj_fv, jj_us]
  · intro j hj; simp only [jj_un (Or.inr hj)]
  · intro b hb; exact jj_ua hb
  · intro b hb; rfl
  · intro b hb; rfl

theorem jj_putZF (hX : jj_ok X cc own nL fr lo mc ms) {idx ci f a : Nat} (hin : jj_Ctor X) (hF : jj_FL own idx ci f true) (hO : ∃ q : vw_C, jj_cl[ci]? = some q ∧ (q.2.1 f).1 = own) (hdg : decode cc pc = .ok (.putfield idx, 3)) (hτ : τ a = some (.inl ci)) {x : Int32} (ht : jj_kd (jj_ty ci f) = 0) (hi : jj_ty ci f = .boolean) (hz : x = 0 ∨ x = 1) (kk : jj_J X Q k n (pc + 3) ls st τ (jj_u I a f x) L r) : jj_J X Q k n pc ls (jI x :: jR (some a) :: st) τ I L r := by
  obtain ⟨⟨l, D, aC, ad, A, sa⟩, p, e, R, s, m, args, below, meth, c⟩ := X
  intro H locs la hl hV hS
  obtain ⟨hn, hf⟩ : narrow (jj_ty ci f) (.int x) = .int x ∧ fits (jj_ty ci f) (.int x) = true := by rw [hi]; exact jj_fitZ hz
  refine jj_putW (I' := (jj_u I a f x)) (L' := L) (r' := r) hX hF (Or.inr ⟨hin, hO⟩) hτ hn hf ?_ ?_ ?_ ?_ ?_ hdg hV hS (fun H locs hV hS => kk H locs la hl hV hS)
  · rw [ht]; simp [jj_fv, jj_us]
  · intro j hj; simp only [jj_un (Or.inr hj)]
  · intro b hb; exact jj_ua hb
  · intro b hb; rfl
  · intro b hb; rfl

theorem jj_putLF (hX : jj_ok X cc own nL fr lo mc ms) {idx ci f a : Nat} (hin : jj_Ctor X) (hF : jj_FL own idx ci f true) (hO : ∃ q : vw_C, jj_cl[ci]? = some q ∧ (q.2.1 f).1 = own) (hdg : decode cc pc = .ok (.putfield idx, 3)) (hτ : τ a = some (.inl ci)) {x : Int64} (ht : jj_kd (jj_ty ci f) = 1) (kk : jj_J X Q k n (pc + 3) ls st τ I (jj_u L a f x) r) : jj_J X Q k n pc ls (jL x :: jR (some a) :: st) τ I L r := by
  obtain ⟨⟨l, D, aC, ad, A, sa⟩, p, e, R, s, m, args, below, meth, c⟩ := X
  intro H locs la hl hV hS
  obtain ⟨hn, hf⟩ := jj_fitL ht x
  refine jj_putW (I' := I) (L' := (jj_u L a f x)) (r' := r) hX hF (Or.inr ⟨hin, hO⟩) hτ hn hf ?_ ?_ ?_ ?_ ?_ hdg hV hS (fun H locs hV hS => kk H locs la hl hV hS)
  · rw [ht]; simp [jj_fv, jj_us]
  · intro j hj; simp only [jj_un (Or.inr hj)]
  · intro b hb; rfl
  · intro b hb; exact jj_ua hb
  · intro b hb; rfl

theorem jj_putRF (hX : jj_ok X cc own nL fr lo mc ms) {idx ci f a : Nat} (hin : jj_Ctor X) (hF : jj_FL own idx ci f true) (hO : ∃ q : vw_C, jj_cl[ci]? = some q ∧ (q.2.1 f).1 = own) (hdg : decode cc pc = .ok (.putfield idx, 3)) (hτ : τ a = some (.inl ci)) {x : Option Nat} (ht : jj_kd (jj_ty ci f) = 2) (kk : jj_J X Q k n (pc + 3) ls st τ I L (jj_u r a f x)) : jj_J X Q k n pc ls (jR x :: jR (some a) :: st) τ I L r := by
  obtain ⟨⟨l, D, aC, ad, A, sa⟩, p, e, R, s, m, args, below, meth, c⟩ := X
  intro H locs la hl hV hS
  obtain ⟨hn, hf⟩ := jj_fitR ht (x.map ad)
  refine jj_putW (I' := I) (L' := L) (r' := (jj_u r a f x)) hX hF (Or.inr ⟨hin, hO⟩) hτ hn hf ?_ ?_ ?_ ?_ ?_ hdg hV hS (fun H locs hV hS => kk H locs la hl hV hS)
  · rw [ht]; simp [jj_fv, jj_us]
  · intro j hj; simp only [jj_un (Or.inr hj)]
  · intro b hb; rfl
  · intro b hb; rfl
  · intro b hb; exact jj_ua hb


theorem jj_vin {i : Int32} {j N : Nat} (hi : i = nI j) (hj : j < N ∧ j < 2147483648) : vp_in i N ∧ i.toNatClampNeg = j := by
  subst hi
  refine ⟨?_, nI_clamp hj.2⟩
  rintro (h | h)
  · exact nI_pos hj.2 h
  · rw [nI_clamp hj.2] at h; omega

theorem jj_iald (hX : jj_ok X cc own nL fr lo mc ms) {a N : Nat} {i : Int32} {t : Nat} (j : Nat) (hdg : decode cc pc = .ok (.iaload, 1)) (hτ : τ a = some (.inr (t, N))) (hk : t = 0) (hi : i = nI j) (hj : j < N ∧ j < 2147483648) (kk : jj_J X Q k n (pc + 1) ls (jI (I a j) :: st) τ I L r) : jj_J X Q k n pc ls (jI i :: jR (some a) :: st) τ I L r := by
  obtain ⟨⟨l, D, aC, ad, A, sa⟩, p, e, R, s, m, args, below, meth, c⟩ := X
  intro H locs la hl hV hS
  obtain ⟨hin, hcl⟩ := jj_vin hi hj
  obtain ⟨h6, hc⟩ := hV.1 a _ hτ
  have hK := (hX.2.2.2.2.2.1.2 t h6).1
  subst hk
  refine W.iald (v := jj_fv (jj_ak _) ad (I a j) (L a j) (r a j)) hX.1 hX.2.1 hc (hK N _) (fun q => by cases q) (by rw [arrV_size]; exact hin) (by rw [hcl]; exact arrV_read _ _ hj.1) rfl rfl hdg ?_
  show W _ _ _ _ _ _ _ _ _ _ _ _ _ _ _ (F0 _ _ _ (.int (I a j) :: _))
  exact kk H locs la hl hV hS
theorem jj_zald (hX : jj_ok X cc own nL fr lo mc ms) {a N : Nat} {i : Int32} {t : Nat} (j : Nat) (hdg : decode cc pc = .ok (.baload, 1)) (hτ : τ a = some (.inr (t, N))) (hk : t = 1) (hi : i = nI j) (hj : j < N ∧ j < 2147483648) (kk : jj_J X Q k n (pc + 1) ls (jI (I a j) :: st) τ I L r) : jj_J X Q k n pc ls (jI i :: jR (some a) :: st) τ I L r := by
  obtain ⟨⟨l, D, aC, ad, A, sa⟩, p, e, R, s, m, args, below, meth, c⟩ := X
  intro H locs la hl hV hS
  obtain ⟨hin, hcl⟩ := jj_vin hi hj
  obtain ⟨h6, hc⟩ := hV.1 a _ hτ
  have hK := (hX.2.2.2.2.2.1.2 t h6).1
  subst hk
  refine W.zald (v := jj_fv (jj_ak _) ad (I a j) (L a j) (r a j)) hX.1 hX.2.1 hc (hK N _) (fun q => by cases q) (by rw [arrV_size]; exact hin) (by rw [hcl]; exact arrV_read _ _ hj.1) rfl rfl hdg ?_
  show W _ _ _ _ _ _ _ _ _ _ _ _ _ _ _ (F0 _ _ _ (.int (I a j) :: _))
  exact kk H locs la hl hV hS
theorem jj_lald (hX : jj_ok X cc own nL fr lo mc ms) {a N : Nat} {i : Int32} {t : Nat} (j : Nat) (hdg : decode cc pc = .ok (.laload, 1)) (hτ : τ a = some (.inr (t, N))) (hk : t = 2) (hi : i = nI j) (hj : j < N ∧ j < 2147483648) (kk : jj_J X Q k n (pc + 1) ls (jL (L a j) :: st) τ I L r) : jj_J X Q k n pc ls (jI i :: jR (some a) :: st) τ I L r := by
  obtain ⟨⟨l, D, aC, ad, A, sa⟩, p, e, R, s, m, args, below, meth, c⟩ := X
  intro H locs la hl hV hS
  obtain ⟨hin, hcl⟩ := jj_vin hi hj
  obtain ⟨h6, hc⟩ := hV.1 a _ hτ
  have hK := (hX.2.2.2.2.2.1.2 t h6).1
  subst hk
  refine W.lald (v := jj_fv (jj_ak _) ad (I a j) (L a j) (r a j)) hX.1 hX.2.1 hc (hK N _) (fun q => by cases q) (by rw [arrV_size]; exact hin) (by rw [hcl]; exact arrV_read _ _ hj.1) rfl rfl hdg ?_
  show W _ _ _ _ _ _ _ _ _ _ _ _ _ _ _ (F0 _ _ _ (.long (L a j) :: _))
  exact kk H locs la hl hV hS
theorem jj_aald (hX : jj_ok X cc own nL fr lo mc ms) {a N : Nat} {i : Int32} {t : Nat} (j : Nat) (hdg : decode cc pc = .ok (.aaload, 1)) (hτ : τ a = some (.inr (t, N))) (hk : 3 ≤ t) (hi : i = nI j) (hj : j < N ∧ j < 2147483648) {x : Option Nat} (hx : r a j = x) (kk : jj_J X Q k n (pc + 1) ls (jR x :: st) τ I L r) : jj_J X Q k n pc ls (jI i :: jR (some a) :: st) τ I L r := by
  obtain ⟨⟨l, D, aC, ad, A, sa⟩, p, e, R, s, m, args, below, meth, c⟩ := X
  intro H locs la hl hV hS
  obtain ⟨hin, hcl⟩ := jj_vin hi hj
  obtain ⟨h6, hc⟩ := hV.1 a _ hτ
  have hK := (hX.2.2.2.2.2.1.2 t h6).1
  obtain ⟨hR, hak⟩ : (jj_aty t).isReference = true ∧ jj_ak t = 2 := by
    match t, hk with
    | 0, h => omega
    | 1, h => omega
    | 2, h => omega
    | 3, _ => exact ⟨rfl, rfl⟩
    | 4, _ => exact ⟨rfl, rfl⟩
    | t + 5, _ => exact ⟨rfl, rfl⟩
  refine W.aald (v := jj_fv (jj_ak _) ad (I a j) (L a j) (r a j)) hX.1 hX.2.1 hc (hK N _) hR (fun q => by cases q) (by rw [arrV_size]; exact hin) (by rw [hcl]; exact arrV_read _ _ hj.1) rfl rfl hdg ?_
  rw [hak, hx]
  exact kk H locs la hl hV hS
theorem jj_alen (hX : jj_ok X cc own nL fr lo mc ms) {a N t : Nat} (hdg : decode cc pc = .ok (.arraylength, 1)) (hτ : τ a = some (.inr (t, N))) (kk : jj_J X Q k n (pc + 1) ls (jI (nI N) :: st) τ I L r) : jj_J X Q k n pc ls (jR (some a) :: st) τ I L r := by
  obtain ⟨⟨l, D, aC, ad, A, sa⟩, p, e, R, s, m, args, below, meth, c⟩ := X
  intro H locs la hl hV hS
  obtain ⟨h6, hc⟩ := hV.1 a _ hτ
  have hK := (hX.2.2.2.2.2.1.2 _ h6).1
  exact W.alen (n := nI N) hX.1 hX.2.1 hc (hK N _) (by rw [arrV_size] <;> rfl) rfl rfl hdg (kk H locs la hl hV hS)
theorem jj_iast (hX : jj_ok X cc own nL fr lo mc ms) {a N : Nat} {i : Int32} (j : Nat) {x : Int32} (hdg : decode cc pc = .ok (.iastore, 1)) (hτ : τ a = some (.inr (0, N))) (hi : i = nI j) (hj : j < N ∧ j < 2147483648) (kk : jj_J X Q k n (pc + 1) ls st τ (jj_u I a j x) L r) : jj_J X Q k n pc ls (jI x :: jI i :: jR (some a) :: st) τ I L r := by
  obtain ⟨⟨l, D, aC, ad, A, sa⟩, p, e, R, s, m, args, below, meth, c⟩ := X
  intro H locs la hl hV hS
  obtain ⟨hin, hcl⟩ := jj_vin hi hj
  obtain ⟨h6, hc⟩ := hV.1 a _ hτ
  have hK := (hX.2.2.2.2.2.1.2 _ h6).1
  refine W.iast hX.1 hX.2.1 hc (hK N _) (fun q => by cases q) (by rw [arrV_size]; exact hin) rfl rfl hdg (fun H1 e z oq => ?_)
  refine kk H1 _ la hl (hV.put (I' := (jj_u I a j x)) (L' := L) (r' := r) hτ ⟨h6, ?_⟩ oq ?_ ?_ ?_) (hS.put z oq (hV.2.2 a _ hτ (fun z => by cases z)))
  · rw [e, arrV_store, hcl]
    congr 2
    funext q
    by_cases hq : q = j
    · subst hq
      simp [updV, jj_u, jj_fv, jj_ak]
    · simp [updV, jj_u, jj_fv, jj_ak, hq]
  · intro b hb; exact jj_ua hb
  · intro b hb; rfl
  · intro b hb; rfl
theorem jj_zast (hX : jj_ok X cc own nL fr lo mc ms) {a N : Nat} {i : Int32} (j : Nat) {x : Int32} (hdg : decode cc pc = .ok (.bastore, 1)) (hτ : τ a = some (.inr (1, N))) (hi : i = nI j) (hj : j < N ∧ j < 2147483648) (hz : x = 0 ∨ x = 1) (kk : jj_J X Q k n (pc + 1) ls st τ (jj_u I a j x) L r) : jj_J X Q k n pc ls (jI x :: jI i :: jR (some a) :: st) τ I L r := by
  obtain ⟨⟨l, D, aC, ad, A, sa⟩, p, e, R, s, m, args, below, meth, c⟩ := X
  intro H locs la hl hV hS
  obtain ⟨hin, hcl⟩ := jj_vin hi hj
  obtain ⟨h6, hc⟩ := hV.1 a _ hτ
  have hK := (hX.2.2.2.2.2.1.2 _ h6).1
  refine W.zast hX.1 hX.2.1 hc (hK N _) (fun q => by cases q) (by rw [arrV_size]; exact hin) rfl rfl hdg (fun H1 e z oq => ?_)
  refine kk H1 _ la hl (hV.put (I' := (jj_u I a j x)) (L' := L) (r' := r) hτ ⟨h6, ?_⟩ oq ?_ ?_ ?_) (hS.put z oq (hV.2.2 a _ hτ (fun z => by cases z)))
  · rw [e, arrV_store, hcl]
    congr 2
    funext q
    by_cases hq : q = j
    · subst hq
      simp [updV, jj_u, jj_fv, jj_ak, (jj_fitZ hz).1]
    · simp [updV, jj_u, jj_fv, jj_ak, hq]
  · intro b hb; exact jj_ua hb
  · intro b hb; rfl
  · intro b hb; rfl
theorem jj_last (hX : jj_ok X cc own nL fr lo mc ms) {a N : Nat} {i : Int32} (j : Nat) {x : Int64} (hdg : decode cc pc = .ok (.lastore, 1)) (hτ : τ a = some (.inr (2, N))) (hi : i = nI j) (hj : j < N ∧ j < 2147483648) (kk : jj_J X Q k n (pc + 1) ls st τ I (jj_u L a j x) r) : jj_J X Q k n pc ls (jL x :: jI i :: jR (some a) :: st) τ I L r := by
  obtain ⟨⟨l, D, aC, ad, A, sa⟩, p, e, R, s, m, args, below, meth, c⟩ := X
  intro H locs la hl hV hS
  obtain ⟨hin, hcl⟩ := jj_vin hi hj
  obtain ⟨h6, hc⟩ := hV.1 a _ hτ
  have hK := (hX.2.2.2.2.2.1.2 _ h6).1
  refine W.last hX.1 hX.2.1 hc (hK N _) (fun q => by cases q) (by rw [arrV_size]; exact hin) rfl rfl hdg (fun H1 e z oq => ?_)
  refine kk H1 _ la hl (hV.put (I' := I) (L' := (jj_u L a j x)) (r' := r) hτ ⟨h6, ?_⟩ oq ?_ ?_ ?_) (hS.put z oq (hV.2.2 a _ hτ (fun z => by cases z)))
  · rw [e, arrV_store, hcl]
    congr 2
    funext q
    by_cases hq : q = j
    · subst hq
      simp [updV, jj_u, jj_fv, jj_ak]
    · simp [updV, jj_u, jj_fv, jj_ak, hq]
  · intro b hb; rfl
  · intro b hb; exact jj_ua hb
  · intro b hb; rfl
end JH
