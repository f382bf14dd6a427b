set_option maxRecDepth 100000
abbrev kk_G (G : jj_G) (ad : Nat → Nat) : jj_G := (G.1, G.2.1, G.2.2.1, ad, G.2.2.2.2.1, G.2.2.2.2.2)
abbrev kk_X (X : jj_X) (ad : Nat → Nat) : jj_X := (kk_G X.1 ad, X.2)
/-- a thing that lives, or one of the statics' -/
def kk_r (τ : jj_T) (b : Nat) : Prop := τ b ≠ none ∨ (1 ≤ b ∧ b ≤ 6)
def kk_q (τ : jj_T) (b : Nat) : Prop := τ b ≠ none ∨ (1 ≤ b ∧ b ≤ 4)
def kk_v (τ : jj_T) (v : jj_v) : Prop := match v with
  | .inl _ => True
  | .inr (.inl _) => True
  | .inr (.inr none) => True
  | .inr (.inr (some b)) => kk_r τ b
def kk_vs (τ : jj_T) : List jj_v → Prop
  | [] => True
  | v :: t => kk_v τ v ∧ kk_vs τ t
def kk_ls (τ : jj_T) : List (Nat × jj_v) → Prop
  | [] => True
  | q :: t => kk_v τ q.2 ∧ kk_ls τ t
/-- the placing: the statics' things; the living lie apart; what lived lives as it was; references are to the living; ids are left -/
def kk_W (sa ad : Nat → Nat) (o τ : jj_T) (r : jj_R) : Prop := (∀ i, i ≤ 6 → ad i = sa i) ∧ (τ 0 = some (.inr (3, 0)) ∧ ∀ i, 1 ≤ i → i ≤ 6 → τ i = none) ∧ (∀ a b, kk_q τ a → kk_q τ b → ad a = ad b → a = b) ∧ (∀ a, o a ≠ none → τ a = o a) ∧ (∀ a j b, τ a ≠ none → r a j = some b → kk_r τ b) ∧ ∃ N, ∀ v, N ≤ v → τ v = none
def kk_J (X : jj_X) (o : jj_T) (Q : State → Prop) (k n pc : Nat) (ls : List (Nat × jj_v)) (st : List jj_v) (τ : jj_T) (I : jj_I) (L : jj_L) (r : jj_R) : Prop :=
  ∀ ad : Nat → Nat, (∀ v, kk_r o v → ad v = X.1.2.2.2.1 v) → kk_W X.1.2.2.2.2.2 ad o τ r → kk_ls τ ls → kk_vs τ st → jj_J (kk_X X ad) Q k n pc ls st τ I L r
def kk_JT (X : jj_X) (o : jj_T) (Q : State → Prop) (k n pc : Nat) (ls : List (Nat × jj_v)) (a : Nat) (τ : jj_T) (I : jj_I) (L : jj_L) (r : jj_R) : Prop :=
  ∀ ad : Nat → Nat, (∀ v, kk_r o v → ad v = X.1.2.2.2.1 v) → kk_W X.1.2.2.2.2.2 ad o τ r → kk_ls τ ls → jj_JT (kk_X X ad) Q k n pc ls a τ I L r
def kk_ok (X : jj_X) (cc : ByteArray) (own : String) (nL fr lo mc ms : Nat) : Prop := jj_ok X cc own nL fr lo mc ms ∧ ∀ i, i ≤ 6 → X.1.2.2.2.2.2 i < X.2.2.2.2.1.heap.size
theorem kk_lk {τ : jj_T} : ∀ {ls : List (Nat × jj_v)} {i : Nat} {v : jj_v}, kk_ls τ ls → jj_lk ls i = some v → kk_v τ v := by
  intro ls
  induction ls with
  | nil => intro i v _ h; cases h
  | cons q t ih =>
    intro i v h1 h2
    unfold jj_lk at h2
    split at h2
    · cases h2; exact h1.1
    · exact ih h1.2 h2
theorem kk_fil {τ : jj_T} (g : Nat × jj_v → Bool) : ∀ {ls : List (Nat × jj_v)}, kk_ls τ ls → kk_ls τ (ls.filter g) := by
  intro ls
  induction ls with
  | nil => intro h; exact h
  | cons q t ih =>
    intro h
    rw [List.filter_cons]
    split
    · exact ⟨h.1, ih h.2⟩
    · exact ih h.2
theorem kk_s1 {τ : jj_T} {ls : List (Nat × jj_v)} {i : Nat} {v : jj_v} (h : kk_ls τ ls) (hv : kk_v τ v) : kk_ls τ (jj_s1 ls i v) := ⟨hv, kk_fil _ h⟩
theorem kk_s2 {τ : jj_T} {ls : List (Nat × jj_v)} {i : Nat} {v : jj_v} (h : kk_ls τ ls) (hv : kk_v τ v) : kk_ls τ (jj_s2 ls i v) := ⟨hv, kk_fil _ h⟩
theorem kk_subl {τ : jj_T} {ls : List (Nat × jj_v)} : ∀ {l2 : List (Nat × jj_v)}, kk_ls τ ls → jj_sub l2 ls → kk_ls τ l2 := by
  intro l2
  induction l2 with
  | nil => intro _ _; trivial
  | cons q t ih => intro h1 h2; exact ⟨kk_lk h1 h2.1, ih h1 h2.2⟩
theorem kk_vr {τ : jj_T} {x : Option Nat} (h : ∀ b, x = some b → kk_r τ b) : kk_v τ (jR x) := by
  cases x with
  | none => trivial
  | some b => exact h b rfl
theorem kk_rv {τ : jj_T} {x : Option Nat} (h : kk_v τ (jR x)) : ∀ b, x = some b → kk_r τ b := by
  intro b hb; subst hb; exact h
section KW
variable {sa ad : Nat → Nat} {o τ : jj_T} {r : jj_R}
theorem kk_W.cl (h : kk_W sa ad o τ r) {a j : Nat} {x : Option Nat} (ha : τ a ≠ none) (hx : r a j = x) : kk_v τ (jR x) := kk_vr fun b hb => h.2.2.2.2.1 a j b ha (hx.trans hb)
theorem kk_W.put (h : kk_W sa ad o τ r) {a j : Nat} {x : Option Nat} (hx : kk_v τ (jR x)) : kk_W sa ad o τ (jj_u r a j x) := by
  refine ⟨h.1, h.2.1, h.2.2.1, h.2.2.2.1, fun b i q hb hq => ?_, h.2.2.2.2.2⟩
  by_cases hc : b = a ∧ i = j
  · obtain ⟨rfl, rfl⟩ := hc
    rw [jj_us] at hq
    exact kk_rv hx q hq
  · rw [jj_un (by by_cases z : b = a; exact Or.inr (fun y => hc ⟨z, y⟩); exact Or.inl z)] at hq
    exact h.2.2.2.2.1 b i q hb hq
end KW
section KR
variable {X : jj_X} {o : jj_T} {cc : ByteArray} {own : String} {nL fr lo mc ms : Nat} {Q : State → Prop} {k n pc : Nat} {ls : List (Nat × jj_v)} {st : List jj_v} {τ : jj_T} {I : jj_I} {L : jj_L} {r : jj_R}

theorem kk_iconst (hX : kk_ok X cc own nL fr lo mc ms) {z : Int} {v : Int32} (hdg : decode cc pc = .ok (.iconst z, 1)) (hv : Int32.ofInt z = v) (kk : kk_J X o Q k n (pc + 1) ls (jI v :: st) τ I L r) : kk_J X o Q k n pc ls st τ I L r := by
  obtain ⟨⟨l, D, aC, ad0, A, sa⟩, p, e, R, s, m, args, below, meth, c⟩ := X
  intro ad ha9 hW hls hst
  exact jj_iconst (X := ((l, D, aC, ad, A, sa), p, e, R, s, m, args, below, meth, c)) hX.1 hdg hv (kk  ad ha9 hW (hls) (⟨trivial, hst⟩))
theorem kk_bipush (hX : kk_ok X cc own nL fr lo mc ms) {z : Int} {v : Int32} (hdg : decode cc pc = .ok (.bipush z, 2)) (hv : (Int8.ofInt z).toInt32 = v) (kk : kk_J X o Q k n (pc + 2) ls (jI v :: st) τ I L r) : kk_J X o Q k n pc ls st τ I L r := by
  obtain ⟨⟨l, D, aC, ad0, A, sa⟩, p, e, R, s, m, args, below, meth, c⟩ := X
  intro ad ha9 hW hls hst
  exact jj_bipush (X := ((l, D, aC, ad, A, sa), p, e, R, s, m, args, below, meth, c)) hX.1 hdg hv (kk  ad ha9 hW (hls) (⟨trivial, hst⟩))
theorem kk_sipush (hX : kk_ok X cc own nL fr lo mc ms) {z : Int} {v : Int32} (hdg : decode cc pc = .ok (.sipush z, 3)) (hv : (Int16.ofInt z).toInt32 = v) (kk : kk_J X o Q k n (pc + 3) ls (jI v :: st) τ I L r) : kk_J X o Q k n pc ls st τ I L r := by
  obtain ⟨⟨l, D, aC, ad0, A, sa⟩, p, e, R, s, m, args, below, meth, c⟩ := X
  intro ad ha9 hW hls hst
  exact jj_sipush (X := ((l, D, aC, ad, A, sa), p, e, R, s, m, args, below, meth, c)) hX.1 hdg hv (kk  ad ha9 hW (hls) (⟨trivial, hst⟩))
theorem kk_lconst (hX : kk_ok X cc own nL fr lo mc ms) {z : Fin 2} {v : Int64} (hdg : decode cc pc = .ok (.lconst z, 1)) (hv : Int64.ofNat (z : Nat) = v) (kk : kk_J X o Q k n (pc + 1) ls (jL v :: st) τ I L r) : kk_J X o Q k n pc ls st τ I L r := by
  obtain ⟨⟨l, D, aC, ad0, A, sa⟩, p, e, R, s, m, args, below, meth, c⟩ := X
  intro ad ha9 hW hls hst
  exact jj_lconst (X := ((l, D, aC, ad, A, sa), p, e, R, s, m, args, below, meth, c)) hX.1 hdg hv (kk  ad ha9 hW (hls) (⟨trivial, hst⟩))
theorem kk_null (hX : kk_ok X cc own nL fr lo mc ms) (hdg : decode cc pc = .ok (.aconst_null, 1)) (kk : kk_J X o Q k n (pc + 1) ls (jR none :: st) τ I L r) : kk_J X o Q k n pc ls st τ I L r := by
  obtain ⟨⟨l, D, aC, ad0, A, sa⟩, p, e, R, s, m, args, below, meth, c⟩ := X
  intro ad ha9 hW hls hst
  exact jj_null (X := ((l, D, aC, ad, A, sa), p, e, R, s, m, args, below, meth, c)) hX.1 hdg (kk  ad ha9 hW (hls) (⟨trivial, hst⟩))
theorem kk_ldc (hX : kk_ok X cc own nL fr lo mc ms) {index : Nat} {v : Int32} (hw : Cond.constant own index v ∈ lw_all) (hdg : decode cc pc = .ok (.ldc index, 2)) (kk : kk_J X o Q k n (pc + 2) ls (jI v :: st) τ I L r) : kk_J X o Q k n pc ls st τ I L r := by
  obtain ⟨⟨l, D, aC, ad0, A, sa⟩, p, e, R, s, m, args, below, meth, c⟩ := X
  intro ad ha9 hW hls hst
  exact jj_ldc (X := ((l, D, aC, ad, A, sa), p, e, R, s, m, args, below, meth, c)) hX.1 hw hdg (kk  ad ha9 hW (hls) (⟨trivial, hst⟩))
theorem kk_ldcw (hX : kk_ok X cc own nL fr lo mc ms) {index : Nat} {v : Int32} (hw : Cond.constant own index v ∈ lw_all) (hdg : decode cc pc = .ok (.ldc_w index, 3)) (kk : kk_J X o Q k n (pc + 3) ls (jI v :: st) τ I L r) : kk_J X o Q k n pc ls st τ I L r := by
  obtain ⟨⟨l, D, aC, ad0, A, sa⟩, p, e, R, s, m, args, below, meth, c⟩ := X
  intro ad ha9 hW hls hst
  exact jj_ldcw (X := ((l, D, aC, ad, A, sa), p, e, R, s, m, args, below, meth, c)) hX.1 hw hdg (kk  ad ha9 hW (hls) (⟨trivial, hst⟩))
theorem kk_ldc2 (hX : kk_ok X cc own nL fr lo mc ms) {index : Nat} {v : Int64} (hw : Cond.constantLong own index v ∈ lw_all) (hdg : decode cc pc = .ok (.ldc2_w index, 3)) (kk : kk_J X o Q k n (pc + 3) ls (jL v :: st) τ I L r) : kk_J X o Q k n pc ls st τ I L r := by
  obtain ⟨⟨l, D, aC, ad0, A, sa⟩, p, e, R, s, m, args, below, meth, c⟩ := X
  intro ad ha9 hW hls hst
  exact jj_ldc2 (X := ((l, D, aC, ad, A, sa), p, e, R, s, m, args, below, meth, c)) hX.1 hw hdg (kk  ad ha9 hW (hls) (⟨trivial, hst⟩))
theorem kk_iload_n (hX : kk_ok X cc own nL fr lo mc ms) {q : Fin 4} {x : Int32} (hdg : decode cc pc = .ok (.iload_n q, 1)) (hl0 : jj_lk ls (q : Nat) = some (jI x)) (kk : kk_J X o Q k n (pc + 1) ls (jI x :: st) τ I L r) : kk_J X o Q k n pc ls st τ I L r := by
  obtain ⟨⟨l, D, aC, ad0, A, sa⟩, p, e, R, s, m, args, below, meth, c⟩ := X
  intro ad ha9 hW hls hst
  exact jj_iload_n (X := ((l, D, aC, ad, A, sa), p, e, R, s, m, args, below, meth, c)) hX.1 hdg hl0 (kk  ad ha9 hW (hls) (⟨trivial, hst⟩))
theorem kk_iload (hX : kk_ok X cc own nL fr lo mc ms) {i : Nat} {x : Int32} (hdg : decode cc pc = .ok (.iload i, 2)) (hl0 : jj_lk ls i = some (jI x)) (kk : kk_J X o Q k n (pc + 2) ls (jI x :: st) τ I L r) : kk_J X o Q k n pc ls st τ I L r := by
  obtain ⟨⟨l, D, aC, ad0, A, sa⟩, p, e, R, s, m, args, below, meth, c⟩ := X
  intro ad ha9 hW hls hst
  exact jj_iload (X := ((l, D, aC, ad, A, sa), p, e, R, s, m, args, below, meth, c)) hX.1 hdg hl0 (kk  ad ha9 hW (hls) (⟨trivial, hst⟩))
theorem kk_lload_n (hX : kk_ok X cc own nL fr lo mc ms) {q : Fin 4} {x : Int64} (hdg : decode cc pc = .ok (.lload_n q, 1)) (hl0 : jj_lk ls (q : Nat) = some (jL x)) (kk : kk_J X o Q k n (pc + 1) ls (jL x :: st) τ I L r) : kk_J X o Q k n pc ls st τ I L r := by
  obtain ⟨⟨l, D, aC, ad0, A, sa⟩, p, e, R, s, m, args, below, meth, c⟩ := X
  intro ad ha9 hW hls hst
  exact jj_lload_n (X := ((l, D, aC, ad, A, sa), p, e, R, s, m, args, below, meth, c)) hX.1 hdg hl0 (kk  ad ha9 hW (hls) (⟨trivial, hst⟩))
theorem kk_lload (hX : kk_ok X cc own nL fr lo mc ms) {i : Nat} {x : Int64} (hdg : decode cc pc = .ok (.lload i, 2)) (hl0 : jj_lk ls i = some (jL x)) (kk : kk_J X o Q k n (pc + 2) ls (jL x :: st) τ I L r) : kk_J X o Q k n pc ls st τ I L r := by
  obtain ⟨⟨l, D, aC, ad0, A, sa⟩, p, e, R, s, m, args, below, meth, c⟩ := X
  intro ad ha9 hW hls hst
  exact jj_lload (X := ((l, D, aC, ad, A, sa), p, e, R, s, m, args, below, meth, c)) hX.1 hdg hl0 (kk  ad ha9 hW (hls) (⟨trivial, hst⟩))
theorem kk_aload_n (hX : kk_ok X cc own nL fr lo mc ms) {q : Fin 4} {x : Option Nat} (hdg : decode cc pc = .ok (.aload_n q, 1)) (hl0 : jj_lk ls (q : Nat) = some (jR x)) (kk : kk_J X o Q k n (pc + 1) ls (jR x :: st) τ I L r) : kk_J X o Q k n pc ls st τ I L r := by
  obtain ⟨⟨l, D, aC, ad0, A, sa⟩, p, e, R, s, m, args, below, meth, c⟩ := X
  intro ad ha9 hW hls hst
  exact jj_aload_n (X := ((l, D, aC, ad, A, sa), p, e, R, s, m, args, below, meth, c)) hX.1 hdg hl0 (kk  ad ha9 hW (hls) (⟨kk_lk hls hl0, hst⟩))
theorem kk_aload (hX : kk_ok X cc own nL fr lo mc ms) {i : Nat} {x : Option Nat} (hdg : decode cc pc = .ok (.aload i, 2)) (hl0 : jj_lk ls i = some (jR x)) (kk : kk_J X o Q k n (pc + 2) ls (jR x :: st) τ I L r) : kk_J X o Q k n pc ls st τ I L r := by
  obtain ⟨⟨l, D, aC, ad0, A, sa⟩, p, e, R, s, m, args, below, meth, c⟩ := X
  intro ad ha9 hW hls hst
  exact jj_aload (X := ((l, D, aC, ad, A, sa), p, e, R, s, m, args, below, meth, c)) hX.1 hdg hl0 (kk  ad ha9 hW (hls) (⟨kk_lk hls hl0, hst⟩))
theorem kk_istore (hX : kk_ok X cc own nL fr lo mc ms) {i : Nat} {x : Int32} (hdg : decode cc pc = .ok (.istore i, 2)) (hn : i < nL) (kk : kk_J X o Q k n (pc + 2) (jj_s1 ls i (jI x)) st τ I L r) : kk_J X o Q k n pc ls (jI x :: st) τ I L r := by
  obtain ⟨⟨l, D, aC, ad0, A, sa⟩, p, e, R, s, m, args, below, meth, c⟩ := X
  intro ad ha9 hW hls hst
  exact jj_istore (X := ((l, D, aC, ad, A, sa), p, e, R, s, m, args, below, meth, c)) hX.1 hdg hn (kk  ad ha9 hW (kk_s1 hls trivial) (hst.2))
theorem kk_istore_n (hX : kk_ok X cc own nL fr lo mc ms) {q : Fin 4} {x : Int32} (hdg : decode cc pc = .ok (.istore_n q, 1)) (hn : (q : Nat) < nL) (kk : kk_J X o Q k n (pc + 1) (jj_s1 ls (q : Nat) (jI x)) st τ I L r) : kk_J X o Q k n pc ls (jI x :: st) τ I L r := by
  obtain ⟨⟨l, D, aC, ad0, A, sa⟩, p, e, R, s, m, args, below, meth, c⟩ := X
  intro ad ha9 hW hls hst
  exact jj_istore_n (X := ((l, D, aC, ad, A, sa), p, e, R, s, m, args, below, meth, c)) hX.1 hdg hn (kk  ad ha9 hW (kk_s1 hls trivial) (hst.2))
theorem kk_lstore (hX : kk_ok X cc own nL fr lo mc ms) {i : Nat} {x : Int64} (hdg : decode cc pc = .ok (.lstore i, 2)) (hn : i + 1 < nL) (kk : kk_J X o Q k n (pc + 2) (jj_s2 ls i (jL x)) st τ I L r) : kk_J X o Q k n pc ls (jL x :: st) τ I L r := by
  obtain ⟨⟨l, D, aC, ad0, A, sa⟩, p, e, R, s, m, args, below, meth, c⟩ := X
  intro ad ha9 hW hls hst
  exact jj_lstore (X := ((l, D, aC, ad, A, sa), p, e, R, s, m, args, below, meth, c)) hX.1 hdg hn (kk  ad ha9 hW (kk_s2 hls trivial) (hst.2))
theorem kk_lstore_n (hX : kk_ok X cc own nL fr lo mc ms) {q : Fin 4} {x : Int64} (hdg : decode cc pc = .ok (.lstore_n q, 1)) (hn : (q : Nat) + 1 < nL) (kk : kk_J X o Q k n (pc + 1) (jj_s2 ls (q : Nat) (jL x)) st τ I L r) : kk_J X o Q k n pc ls (jL x :: st) τ I L r := by
  obtain ⟨⟨l, D, aC, ad0, A, sa⟩, p, e, R, s, m, args, below, meth, c⟩ := X
  intro ad ha9 hW hls hst
  exact jj_lstore_n (X := ((l, D, aC, ad, A, sa), p, e, R, s, m, args, below, meth, c)) hX.1 hdg hn (kk  ad ha9 hW (kk_s2 hls trivial) (hst.2))
theorem kk_astore (hX : kk_ok X cc own nL fr lo mc ms) {i : Nat} {x : Option Nat} (hdg : decode cc pc = .ok (.astore i, 2)) (hn : i < nL) (kk : kk_J X o Q k n (pc + 2) (jj_s1 ls i (jR x)) st τ I L r) : kk_J X o Q k n pc ls (jR x :: st) τ I L r := by
  obtain ⟨⟨l, D, aC, ad0, A, sa⟩, p, e, R, s, m, args, below, meth, c⟩ := X
  intro ad ha9 hW hls hst
  exact jj_astore (X := ((l, D, aC, ad, A, sa), p, e, R, s, m, args, below, meth, c)) hX.1 hdg hn (kk  ad ha9 hW (kk_s1 hls hst.1) (hst.2))
theorem kk_astore_n (hX : kk_ok X cc own nL fr lo mc ms) {q : Fin 4} {x : Option Nat} (hdg : decode cc pc = .ok (.astore_n q, 1)) (hn : (q : Nat) < nL) (kk : kk_J X o Q k n (pc + 1) (jj_s1 ls (q : Nat) (jR x)) st τ I L r) : kk_J X o Q k n pc ls (jR x :: st) τ I L r := by
  obtain ⟨⟨l, D, aC, ad0, A, sa⟩, p, e, R, s, m, args, below, meth, c⟩ := X
  intro ad ha9 hW hls hst
  exact jj_astore_n (X := ((l, D, aC, ad, A, sa), p, e, R, s, m, args, below, meth, c)) hX.1 hdg hn (kk  ad ha9 hW (kk_s1 hls hst.1) (hst.2))
theorem kk_iinc (hX : kk_ok X cc own nL fr lo mc ms) {i : Nat} {z : Int} {x v : Int32} (hdg : decode cc pc = .ok (.iinc i z, 3)) (hl0 : jj_lk ls i = some (jI x)) (hv : x + Int32.ofInt z = v) (hn : i < nL) (kk : kk_J X o Q k n (pc + 3) (jj_s1 ls i (jI v)) st τ I L r) : kk_J X o Q k n pc ls st τ I L r := by
  obtain ⟨⟨l, D, aC, ad0, A, sa⟩, p, e, R, s, m, args, below, meth, c⟩ := X
  intro ad ha9 hW hls hst
  exact jj_iinc (X := ((l, D, aC, ad, A, sa), p, e, R, s, m, args, below, meth, c)) hX.1 hdg hl0 hv hn (kk  ad ha9 hW (kk_s1 hls trivial) (hst))
theorem kk_iadd (hX : kk_ok X cc own nL fr lo mc ms) {x y : Int32} (hdg : decode cc pc = .ok (.iadd, 1)) (kk : kk_J X o Q k n (pc + 1) ls (jI (x + y) :: st) τ I L r) : kk_J X o Q k n pc ls (jI y :: jI x :: st) τ I L r := by
  obtain ⟨⟨l, D, aC, ad0, A, sa⟩, p, e, R, s, m, args, below, meth, c⟩ := X
  intro ad ha9 hW hls hst
  exact jj_iadd (X := ((l, D, aC, ad, A, sa), p, e, R, s, m, args, below, meth, c)) hX.1 hdg (kk  ad ha9 hW (hls) (⟨trivial, hst.2.2⟩))
theorem kk_isub (hX : kk_ok X cc own nL fr lo mc ms) {x y : Int32} (hdg : decode cc pc = .ok (.isub, 1)) (kk : kk_J X o Q k n (pc + 1) ls (jI (x - y) :: st) τ I L r) : kk_J X o Q k n pc ls (jI y :: jI x :: st) τ I L r := by
  obtain ⟨⟨l, D, aC, ad0, A, sa⟩, p, e, R, s, m, args, below, meth, c⟩ := X
  intro ad ha9 hW hls hst
  exact jj_isub (X := ((l, D, aC, ad, A, sa), p, e, R, s, m, args, below, meth, c)) hX.1 hdg (kk  ad ha9 hW (hls) (⟨trivial, hst.2.2⟩))
theorem kk_imul (hX : kk_ok X cc own nL fr lo mc ms) {x y : Int32} (hdg : decode cc pc = .ok (.imul, 1)) (kk : kk_J X o Q k n (pc + 1) ls (jI (x * y) :: st) τ I L r) : kk_J X o Q k n pc ls (jI y :: jI x :: st) τ I L r := by
  obtain ⟨⟨l, D, aC, ad0, A, sa⟩, p, e, R, s, m, args, below, meth, c⟩ := X
  intro ad ha9 hW hls hst
  exact jj_imul (X := ((l, D, aC, ad, A, sa), p, e, R, s, m, args, below, meth, c)) hX.1 hdg (kk  ad ha9 hW (hls) (⟨trivial, hst.2.2⟩))
theorem kk_iand (hX : kk_ok X cc own nL fr lo mc ms) {x y : Int32} (hdg : decode cc pc = .ok (.iand, 1)) (kk : kk_J X o Q k n (pc + 1) ls (jI (x &&& y) :: st) τ I L r) : kk_J X o Q k n pc ls (jI y :: jI x :: st) τ I L r := by
  obtain ⟨⟨l, D, aC, ad0, A, sa⟩, p, e, R, s, m, args, below, meth, c⟩ := X
  intro ad ha9 hW hls hst
  exact jj_iand (X := ((l, D, aC, ad, A, sa), p, e, R, s, m, args, below, meth, c)) hX.1 hdg (kk  ad ha9 hW (hls) (⟨trivial, hst.2.2⟩))
theorem kk_ior (hX : kk_ok X cc own nL fr lo mc ms) {x y : Int32} (hdg : decode cc pc = .ok (.ior, 1)) (kk : kk_J X o Q k n (pc + 1) ls (jI (x ||| y) :: st) τ I L r) : kk_J X o Q k n pc ls (jI y :: jI x :: st) τ I L r := by
  obtain ⟨⟨l, D, aC, ad0, A, sa⟩, p, e, R, s, m, args, below, meth, c⟩ := X
  intro ad ha9 hW hls hst
  exact jj_ior (X := ((l, D, aC, ad, A, sa), p, e, R, s, m, args, below, meth, c)) hX.1 hdg (kk  ad ha9 hW (hls) (⟨trivial, hst.2.2⟩))
theorem kk_ixor (hX : kk_ok X cc own nL fr lo mc ms) {x y : Int32} (hdg : decode cc pc = .ok (.ixor, 1)) (kk : kk_J X o Q k n (pc + 1) ls (jI (x ^^^ y) :: st) τ I L r) : kk_J X o Q k n pc ls (jI y :: jI x :: st) τ I L r := by
  obtain ⟨⟨l, D, aC, ad0, A, sa⟩, p, e, R, s, m, args, below, meth, c⟩ := X
  intro ad ha9 hW hls hst
  exact jj_ixor (X := ((l, D, aC, ad, A, sa), p, e, R, s, m, args, below, meth, c)) hX.1 hdg (kk  ad ha9 hW (hls) (⟨trivial, hst.2.2⟩))
theorem kk_ladd (hX : kk_ok X cc own nL fr lo mc ms) {x y : Int64} (hdg : decode cc pc = .ok (.ladd, 1)) (kk : kk_J X o Q k n (pc + 1) ls (jL (x + y) :: st) τ I L r) : kk_J X o Q k n pc ls (jL y :: jL x :: st) τ I L r := by
  obtain ⟨⟨l, D, aC, ad0, A, sa⟩, p, e, R, s, m, args, below, meth, c⟩ := X
  intro ad ha9 hW hls hst
  exact jj_ladd (X := ((l, D, aC, ad, A, sa), p, e, R, s, m, args, below, meth, c)) hX.1 hdg (kk  ad ha9 hW (hls) (⟨trivial, hst.2.2⟩))
theorem kk_lsub (hX : kk_ok X cc own nL fr lo mc ms) {x y : Int64} (hdg : decode cc pc = .ok (.lsub, 1)) (kk : kk_J X o Q k n (pc + 1) ls (jL (x - y) :: st) τ I L r) : kk_J X o Q k n pc ls (jL y :: jL x :: st) τ I L r := by
  obtain ⟨⟨l, D, aC, ad0, A, sa⟩, p, e, R, s, m, args, below, meth, c⟩ := X
  intro ad ha9 hW hls hst
  exact jj_lsub (X := ((l, D, aC, ad, A, sa), p, e, R, s, m, args, below, meth, c)) hX.1 hdg (kk  ad ha9 hW (hls) (⟨trivial, hst.2.2⟩))
theorem kk_lmul (hX : kk_ok X cc own nL fr lo mc ms) {x y : Int64} (hdg : decode cc pc = .ok (.lmul, 1)) (kk : kk_J X o Q k n (pc + 1) ls (jL (x * y) :: st) τ I L r) : kk_J X o Q k n pc ls (jL y :: jL x :: st) τ I L r := by
  obtain ⟨⟨l, D, aC, ad0, A, sa⟩, p, e, R, s, m, args, below, meth, c⟩ := X
  intro ad ha9 hW hls hst
  exact jj_lmul (X := ((l, D, aC, ad, A, sa), p, e, R, s, m, args, below, meth, c)) hX.1 hdg (kk  ad ha9 hW (hls) (⟨trivial, hst.2.2⟩))
theorem kk_land (hX : kk_ok X cc own nL fr lo mc ms) {x y : Int64} (hdg : decode cc pc = .ok (.land, 1)) (kk : kk_J X o Q k n (pc + 1) ls (jL (x &&& y) :: st) τ I L r) : kk_J X o Q k n pc ls (jL y :: jL x :: st) τ I L r := by
  obtain ⟨⟨l, D, aC, ad0, A, sa⟩, p, e, R, s, m, args, below, meth, c⟩ := X
  intro ad ha9 hW hls hst
  exact jj_land (X := ((l, D, aC, ad, A, sa), p, e, R, s, m, args, below, meth, c)) hX.1 hdg (kk  ad ha9 hW (hls) (⟨trivial, hst.2.2⟩))
theorem kk_lor (hX : kk_ok X cc own nL fr lo mc ms) {x y : Int64} (hdg : decode cc pc = .ok (.lor, 1)) (kk : kk_J X o Q k n (pc + 1) ls (jL (x ||| y) :: st) τ I L r) : kk_J X o Q k n pc ls (jL y :: jL x :: st) τ I L r := by
  obtain ⟨⟨l, D, aC, ad0, A, sa⟩, p, e, R, s, m, args, below, meth, c⟩ := X
  intro ad ha9 hW hls hst
  exact jj_lor (X := ((l, D, aC, ad, A, sa), p, e, R, s, m, args, below, meth, c)) hX.1 hdg (kk  ad ha9 hW (hls) (⟨trivial, hst.2.2⟩))
theorem kk_lxor (hX : kk_ok X cc own nL fr lo mc ms) {x y : Int64} (hdg : decode cc pc = .ok (.lxor, 1)) (kk : kk_J X o Q k n (pc + 1) ls (jL (x ^^^ y) :: st) τ I L r) : kk_J X o Q k n pc ls (jL y :: jL x :: st) τ I L r := by
  obtain ⟨⟨l, D, aC, ad0, A, sa⟩, p, e, R, s, m, args, below, meth, c⟩ := X
  intro ad ha9 hW hls hst
  exact jj_lxor (X := ((l, D, aC, ad, A, sa), p, e, R, s, m, args, below, meth, c)) hX.1 hdg (kk  ad ha9 hW (hls) (⟨trivial, hst.2.2⟩))
theorem kk_idiv (hX : kk_ok X cc own nL fr lo mc ms) {x y : Int32} (hdg : decode cc pc = .ok (.idiv, 1)) (hne : ¬ y = 0) (kk : kk_J X o Q k n (pc + 1) ls (jI (x / y) :: st) τ I L r) : kk_J X o Q k n pc ls (jI y :: jI x :: st) τ I L r := by
  obtain ⟨⟨l, D, aC, ad0, A, sa⟩, p, e, R, s, m, args, below, meth, c⟩ := X
  intro ad ha9 hW hls hst
  exact jj_idiv (X := ((l, D, aC, ad, A, sa), p, e, R, s, m, args, below, meth, c)) hX.1 hdg hne (kk  ad ha9 hW (hls) (⟨trivial, hst.2.2⟩))
theorem kk_ldiv (hX : kk_ok X cc own nL fr lo mc ms) {x y : Int64} (hdg : decode cc pc = .ok (.ldiv, 1)) (hne : ¬ y = 0) (kk : kk_J X o Q k n (pc + 1) ls (jL (x / y) :: st) τ I L r) : kk_J X o Q k n pc ls (jL y :: jL x :: st) τ I L r := by
  obtain ⟨⟨l, D, aC, ad0, A, sa⟩, p, e, R, s, m, args, below, meth, c⟩ := X
  intro ad ha9 hW hls hst
  exact jj_ldiv (X := ((l, D, aC, ad, A, sa), p, e, R, s, m, args, below, meth, c)) hX.1 hdg hne (kk  ad ha9 hW (hls) (⟨trivial, hst.2.2⟩))
theorem kk_irem (hX : kk_ok X cc own nL fr lo mc ms) {x y : Int32} (hdg : decode cc pc = .ok (.irem, 1)) (hne : ¬ y = 0) (kk : kk_J X o Q k n (pc + 1) ls (jI (x - x / y * y) :: st) τ I L r) : kk_J X o Q k n pc ls (jI y :: jI x :: st) τ I L r := by
  obtain ⟨⟨l, D, aC, ad0, A, sa⟩, p, e, R, s, m, args, below, meth, c⟩ := X
  intro ad ha9 hW hls hst
  exact jj_irem (X := ((l, D, aC, ad, A, sa), p, e, R, s, m, args, below, meth, c)) hX.1 hdg hne (kk  ad ha9 hW (hls) (⟨trivial, hst.2.2⟩))
theorem kk_lrem (hX : kk_ok X cc own nL fr lo mc ms) {x y : Int64} (hdg : decode cc pc = .ok (.lrem, 1)) (hne : ¬ y = 0) (kk : kk_J X o Q k n (pc + 1) ls (jL (x - x / y * y) :: st) τ I L r) : kk_J X o Q k n pc ls (jL y :: jL x :: st) τ I L r := by
  obtain ⟨⟨l, D, aC, ad0, A, sa⟩, p, e, R, s, m, args, below, meth, c⟩ := X
  intro ad ha9 hW hls hst
  exact jj_lrem (X := ((l, D, aC, ad, A, sa), p, e, R, s, m, args, below, meth, c)) hX.1 hdg hne (kk  ad ha9 hW (hls) (⟨trivial, hst.2.2⟩))
theorem kk_ishl (hX : kk_ok X cc own nL fr lo mc ms) {x y : Int32} (hdg : decode cc pc = .ok (.ishl, 1)) (kk : kk_J X o Q k n (pc + 1) ls (jI (x <<< (y &&& 31)) :: st) τ I L r) : kk_J X o Q k n pc ls (jI y :: jI x :: st) τ I L r := by
  obtain ⟨⟨l, D, aC, ad0, A, sa⟩, p, e, R, s, m, args, below, meth, c⟩ := X
  intro ad ha9 hW hls hst
  exact jj_ishl (X := ((l, D, aC, ad, A, sa), p, e, R, s, m, args, below, meth, c)) hX.1 hdg (kk  ad ha9 hW (hls) (⟨trivial, hst.2.2⟩))
theorem kk_ishr (hX : kk_ok X cc own nL fr lo mc ms) {x y : Int32} (hdg : decode cc pc = .ok (.ishr, 1)) (kk : kk_J X o Q k n (pc + 1) ls (jI (x >>> (y &&& 31)) :: st) τ I L r) : kk_J X o Q k n pc ls (jI y :: jI x :: st) τ I L r := by
  obtain ⟨⟨l, D, aC, ad0, A, sa⟩, p, e, R, s, m, args, below, meth, c⟩ := X
  intro ad ha9 hW hls hst
  exact jj_ishr (X := ((l, D, aC, ad, A, sa), p, e, R, s, m, args, below, meth, c)) hX.1 hdg (kk  ad ha9 hW (hls) (⟨trivial, hst.2.2⟩))
theorem kk_iushr (hX : kk_ok X cc own nL fr lo mc ms) {x y v : Int32} (hdg : decode cc pc = .ok (.iushr, 1)) (hv : (x.toUInt32 >>> (y.toUInt32 &&& Int32.toUInt32 31)).toInt32 = v) (kk : kk_J X o Q k n (pc + 1) ls (jI v :: st) τ I L r) : kk_J X o Q k n pc ls (jI y :: jI x :: st) τ I L r := by
  obtain ⟨⟨l, D, aC, ad0, A, sa⟩, p, e, R, s, m, args, below, meth, c⟩ := X
  intro ad ha9 hW hls hst
  exact jj_iushr (X := ((l, D, aC, ad, A, sa), p, e, R, s, m, args, below, meth, c)) hX.1 hdg hv (kk  ad ha9 hW (hls) (⟨trivial, hst.2.2⟩))
theorem kk_lshl (hX : kk_ok X cc own nL fr lo mc ms) {x v : Int64} {y : Int32} (hdg : decode cc pc = .ok (.lshl, 1)) (hv : x <<< (y.toInt64 &&& 63) = v) (kk : kk_J X o Q k n (pc + 1) ls (jL v :: st) τ I L r) : kk_J X o Q k n pc ls (jI y :: jL x :: st) τ I L r := by
  obtain ⟨⟨l, D, aC, ad0, A, sa⟩, p, e, R, s, m, args, below, meth, c⟩ := X
  intro ad ha9 hW hls hst
  exact jj_lshl (X := ((l, D, aC, ad, A, sa), p, e, R, s, m, args, below, meth, c)) hX.1 hdg hv (kk  ad ha9 hW (hls) (⟨trivial, hst.2.2⟩))
theorem kk_i2l (hX : kk_ok X cc own nL fr lo mc ms) {x : Int32} (hdg : decode cc pc = .ok (.i2l, 1)) (kk : kk_J X o Q k n (pc + 1) ls (jL x.toInt64 :: st) τ I L r) : kk_J X o Q k n pc ls (jI x :: st) τ I L r := by
  obtain ⟨⟨l, D, aC, ad0, A, sa⟩, p, e, R, s, m, args, below, meth, c⟩ := X
  intro ad ha9 hW hls hst
  exact jj_i2l (X := ((l, D, aC, ad, A, sa), p, e, R, s, m, args, below, meth, c)) hX.1 hdg (kk  ad ha9 hW (hls) (⟨trivial, hst.2⟩))
theorem kk_l2i (hX : kk_ok X cc own nL fr lo mc ms) {x : Int64} (hdg : decode cc pc = .ok (.l2i, 1)) (kk : kk_J X o Q k n (pc + 1) ls (jI x.toInt32 :: st) τ I L r) : kk_J X o Q k n pc ls (jL x :: st) τ I L r := by
  obtain ⟨⟨l, D, aC, ad0, A, sa⟩, p, e, R, s, m, args, below, meth, c⟩ := X
  intro ad ha9 hW hls hst
  exact jj_l2i (X := ((l, D, aC, ad, A, sa), p, e, R, s, m, args, below, meth, c)) hX.1 hdg (kk  ad ha9 hW (hls) (⟨trivial, hst.2⟩))
theorem kk_lcmp (hX : kk_ok X cc own nL fr lo mc ms) {x y : Int64} (hdg : decode cc pc = .ok (.lcmp, 1)) (kk : kk_J X o Q k n (pc + 1) ls (jI (lg_cmp x y) :: st) τ I L r) : kk_J X o Q k n pc ls (jL y :: jL x :: st) τ I L r := by
  obtain ⟨⟨l, D, aC, ad0, A, sa⟩, p, e, R, s, m, args, below, meth, c⟩ := X
  intro ad ha9 hW hls hst
  exact jj_lcmp (X := ((l, D, aC, ad, A, sa), p, e, R, s, m, args, below, meth, c)) hX.1 hdg (kk  ad ha9 hW (hls) (⟨trivial, hst.2.2⟩))
theorem kk_dup (hX : kk_ok X cc own nL fr lo mc ms) {v : jj_v} (hdg : decode cc pc = .ok (.dup, 1)) (h1 : jj_w2 v = false) (kk : kk_J X o Q k n (pc + 1) ls (v :: v :: st) τ I L r) : kk_J X o Q k n pc ls (v :: st) τ I L r := by
  obtain ⟨⟨l, D, aC, ad0, A, sa⟩, p, e, R, s, m, args, below, meth, c⟩ := X
  intro ad ha9 hW hls hst
  exact jj_dup (X := ((l, D, aC, ad, A, sa), p, e, R, s, m, args, below, meth, c)) hX.1 hdg h1 (kk  ad ha9 hW (hls) (⟨hst.1, hst.1, hst.2⟩))
theorem kk_pop (hX : kk_ok X cc own nL fr lo mc ms) {v : jj_v} (hdg : decode cc pc = .ok (.pop, 1)) (h1 : jj_w2 v = false) (kk : kk_J X o Q k n (pc + 1) ls st τ I L r) : kk_J X o Q k n pc ls (v :: st) τ I L r := by
  obtain ⟨⟨l, D, aC, ad0, A, sa⟩, p, e, R, s, m, args, below, meth, c⟩ := X
  intro ad ha9 hW hls hst
  exact jj_pop (X := ((l, D, aC, ad, A, sa), p, e, R, s, m, args, below, meth, c)) hX.1 hdg h1 (kk  ad ha9 hW (hls) (hst.2))
theorem kk_dup_x1 (hX : kk_ok X cc own nL fr lo mc ms) {v u : jj_v} (hdg : decode cc pc = .ok (.dup_x1, 1)) (h1 : jj_w2 v = false) (h2 : jj_w2 u = false) (kk : kk_J X o Q k n (pc + 1) ls (v :: u :: v :: st) τ I L r) : kk_J X o Q k n pc ls (v :: u :: st) τ I L r := by
  obtain ⟨⟨l, D, aC, ad0, A, sa⟩, p, e, R, s, m, args, below, meth, c⟩ := X
  intro ad ha9 hW hls hst
  exact jj_dup_x1 (X := ((l, D, aC, ad, A, sa), p, e, R, s, m, args, below, meth, c)) hX.1 hdg h1 h2 (kk  ad ha9 hW (hls) (⟨hst.1, hst.2.1, hst.1, hst.2.2⟩))
theorem kk_dup2 (hX : kk_ok X cc own nL fr lo mc ms) {v u : jj_v} (hdg : decode cc pc = .ok (.dup2, 1)) (h1 : jj_w2 v = false) (h2 : jj_w2 u = false) (kk : kk_J X o Q k n (pc + 1) ls (v :: u :: v :: u :: st) τ I L r) : kk_J X o Q k n pc ls (v :: u :: st) τ I L r := by
  obtain ⟨⟨l, D, aC, ad0, A, sa⟩, p, e, R, s, m, args, below, meth, c⟩ := X
  intro ad ha9 hW hls hst
  exact jj_dup2 (X := ((l, D, aC, ad, A, sa), p, e, R, s, m, args, below, meth, c)) hX.1 hdg h1 h2 (kk  ad ha9 hW (hls) (⟨hst.1, hst.2.1, hst.1, hst.2.1, hst.2.2⟩))
theorem kk_if_eq (hX : kk_ok X cc own nL fr lo mc ms) {x : Int32} {off : Int} (tgt : Nat) (hdg : decode cc pc = .ok (.ifCond .eq off, 3)) (ht : (pc : Int) + off = (tgt : Int)) (kt : x = 0 → kk_J X o Q k n tgt ls st τ I L r) (kf : ¬ x = 0 → kk_J X o Q k n (pc + 3) ls st τ I L r) : kk_J X o Q k n pc ls (jI x :: st) τ I L r := by
  obtain ⟨⟨l, D, aC, ad0, A, sa⟩, p, e, R, s, m, args, below, meth, c⟩ := X
  intro ad ha9 hW hls hst
  exact jj_if_eq (X := ((l, D, aC, ad, A, sa), p, e, R, s, m, args, below, meth, c)) hX.1 tgt hdg ht (fun h90 => kt h90 ad ha9 hW (hls) (hst.2)) (fun h90 => kf h90 ad ha9 hW (hls) (hst.2))
theorem kk_icmp_eq (hX : kk_ok X cc own nL fr lo mc ms) {x y : Int32} {off : Int} (tgt : Nat) (hdg : decode cc pc = .ok (.if_icmp .eq off, 3)) (ht : (pc : Int) + off = (tgt : Int)) (kt : x = y → kk_J X o Q k n tgt ls st τ I L r) (kf : ¬ x = y → kk_J X o Q k n (pc + 3) ls st τ I L r) : kk_J X o Q k n pc ls (jI y :: jI x :: st) τ I L r := by
  obtain ⟨⟨l, D, aC, ad0, A, sa⟩, p, e, R, s, m, args, below, meth, c⟩ := X
  intro ad ha9 hW hls hst
  exact jj_icmp_eq (X := ((l, D, aC, ad, A, sa), p, e, R, s, m, args, below, meth, c)) hX.1 tgt hdg ht (fun h90 => kt h90 ad ha9 hW (hls) (hst.2.2)) (fun h90 => kf h90 ad ha9 hW (hls) (hst.2.2))
theorem kk_if_ne (hX : kk_ok X cc own nL fr lo mc ms) {x : Int32} {off : Int} (tgt : Nat) (hdg : decode cc pc = .ok (.ifCond .ne off, 3)) (ht : (pc : Int) + off = (tgt : Int)) (kt : ¬ x = 0 → kk_J X o Q k n tgt ls st τ I L r) (kf : x = 0 → kk_J X o Q k n (pc + 3) ls st τ I L r) : kk_J X o Q k n pc ls (jI x :: st) τ I L r := by
  obtain ⟨⟨l, D, aC, ad0, A, sa⟩, p, e, R, s, m, args, below, meth, c⟩ := X
  intro ad ha9 hW hls hst
  exact jj_if_ne (X := ((l, D, aC, ad, A, sa), p, e, R, s, m, args, below, meth, c)) hX.1 tgt hdg ht (fun h90 => kt h90 ad ha9 hW (hls) (hst.2)) (fun h90 => kf h90 ad ha9 hW (hls) (hst.2))
theorem kk_icmp_ne (hX : kk_ok X cc own nL fr lo mc ms) {x y : Int32} {off : Int} (tgt : Nat) (hdg : decode cc pc = .ok (.if_icmp .ne off, 3)) (ht : (pc : Int) + off = (tgt : Int)) (kt : ¬ x = y → kk_J X o Q k n tgt ls st τ I L r) (kf : x = y → kk_J X o Q k n (pc + 3) ls st τ I L r) : kk_J X o Q k n pc ls (jI y :: jI x :: st) τ I L r := by
  obtain ⟨⟨l, D, aC, ad0, A, sa⟩, p, e, R, s, m, args, below, meth, c⟩ := X
  intro ad ha9 hW hls hst
  exact jj_icmp_ne (X := ((l, D, aC, ad, A, sa), p, e, R, s, m, args, below, meth, c)) hX.1 tgt hdg ht (fun h90 => kt h90 ad ha9 hW (hls) (hst.2.2)) (fun h90 => kf h90 ad ha9 hW (hls) (hst.2.2))
theorem kk_if_lt (hX : kk_ok X cc own nL fr lo mc ms) {x : Int32} {off : Int} (tgt : Nat) (hdg : decode cc pc = .ok (.ifCond .lt off, 3)) (ht : (pc : Int) + off = (tgt : Int)) (kt : x < 0 → kk_J X o Q k n tgt ls st τ I L r) (kf : ¬ x < 0 → kk_J X o Q k n (pc + 3) ls st τ I L r) : kk_J X o Q k n pc ls (jI x :: st) τ I L r := by
  obtain ⟨⟨l, D, aC, ad0, A, sa⟩, p, e, R, s, m, args, below, meth, c⟩ := X
  intro ad ha9 hW hls hst
  exact jj_if_lt (X := ((l, D, aC, ad, A, sa), p, e, R, s, m, args, below, meth, c)) hX.1 tgt hdg ht (fun h90 => kt h90 ad ha9 hW (hls) (hst.2)) (fun h90 => kf h90 ad ha9 hW (hls) (hst.2))
theorem kk_icmp_lt (hX : kk_ok X cc own nL fr lo mc ms) {x y : Int32} {off : Int} (tgt : Nat) (hdg : decode cc pc = .ok (.if_icmp .lt off, 3)) (ht : (pc : Int) + off = (tgt : Int)) (kt : x < y → kk_J X o Q k n tgt ls st τ I L r) (kf : ¬ x < y → kk_J X o Q k n (pc + 3) ls st τ I L r) : kk_J X o Q k n pc ls (jI y :: jI x :: st) τ I L r := by
  obtain ⟨⟨l, D, aC, ad0, A, sa⟩, p, e, R, s, m, args, below, meth, c⟩ := X
  intro ad ha9 hW hls hst
  exact jj_icmp_lt (X := ((l, D, aC, ad, A, sa), p, e, R, s, m, args, below, meth, c)) hX.1 tgt hdg ht (fun h90 => kt h90 ad ha9 hW (hls) (hst.2.2)) (fun h90 => kf h90 ad ha9 hW (hls) (hst.2.2))
theorem kk_if_ge (hX : kk_ok X cc own nL fr lo mc ms) {x : Int32} {off : Int} (tgt : Nat) (hdg : decode cc pc = .ok (.ifCond .ge off, 3)) (ht : (pc : Int) + off = (tgt : Int)) (kt : 0 ≤ x → kk_J X o Q k n tgt ls st τ I L r) (kf : ¬ 0 ≤ x → kk_J X o Q k n (pc + 3) ls st τ I L r) : kk_J X o Q k n pc ls (jI x :: st) τ I L r := by
  obtain ⟨⟨l, D, aC, ad0, A, sa⟩, p, e, R, s, m, args, below, meth, c⟩ := X
  intro ad ha9 hW hls hst
  exact jj_if_ge (X := ((l, D, aC, ad, A, sa), p, e, R, s, m, args, below, meth, c)) hX.1 tgt hdg ht (fun h90 => kt h90 ad ha9 hW (hls) (hst.2)) (fun h90 => kf h90 ad ha9 hW (hls) (hst.2))
theorem kk_icmp_ge (hX : kk_ok X cc own nL fr lo mc ms) {x y : Int32} {off : Int} (tgt : Nat) (hdg : decode cc pc = .ok (.if_icmp .ge off, 3)) (ht : (pc : Int) + off = (tgt : Int)) (kt : y ≤ x → kk_J X o Q k n tgt ls st τ I L r) (kf : ¬ y ≤ x → kk_J X o Q k n (pc + 3) ls st τ I L r) : kk_J X o Q k n pc ls (jI y :: jI x :: st) τ I L r := by
  obtain ⟨⟨l, D, aC, ad0, A, sa⟩, p, e, R, s, m, args, below, meth, c⟩ := X
  intro ad ha9 hW hls hst
  exact jj_icmp_ge (X := ((l, D, aC, ad, A, sa), p, e, R, s, m, args, below, meth, c)) hX.1 tgt hdg ht (fun h90 => kt h90 ad ha9 hW (hls) (hst.2.2)) (fun h90 => kf h90 ad ha9 hW (hls) (hst.2.2))
theorem kk_if_gt (hX : kk_ok X cc own nL fr lo mc ms) {x : Int32} {off : Int} (tgt : Nat) (hdg : decode cc pc = .ok (.ifCond .gt off, 3)) (ht : (pc : Int) + off = (tgt : Int)) (kt : 0 < x → kk_J X o Q k n tgt ls st τ I L r) (kf : ¬ 0 < x → kk_J X o Q k n (pc + 3) ls st τ I L r) : kk_J X o Q k n pc ls (jI x :: st) τ I L r := by
  obtain ⟨⟨l, D, aC, ad0, A, sa⟩, p, e, R, s, m, args, below, meth, c⟩ := X
  intro ad ha9 hW hls hst
  exact jj_if_gt (X := ((l, D, aC, ad, A, sa), p, e, R, s, m, args, below, meth, c)) hX.1 tgt hdg ht (fun h90 => kt h90 ad ha9 hW (hls) (hst.2)) (fun h90 => kf h90 ad ha9 hW (hls) (hst.2))
theorem kk_icmp_gt (hX : kk_ok X cc own nL fr lo mc ms) {x y : Int32} {off : Int} (tgt : Nat) (hdg : decode cc pc = .ok (.if_icmp .gt off, 3)) (ht : (pc : Int) + off = (tgt : Int)) (kt : y < x → kk_J X o Q k n tgt ls st τ I L r) (kf : ¬ y < x → kk_J X o Q k n (pc + 3) ls st τ I L r) : kk_J X o Q k n pc ls (jI y :: jI x :: st) τ I L r := by
  obtain ⟨⟨l, D, aC, ad0, A, sa⟩, p, e, R, s, m, args, below, meth, c⟩ := X
  intro ad ha9 hW hls hst
  exact jj_icmp_gt (X := ((l, D, aC, ad, A, sa), p, e, R, s, m, args, below, meth, c)) hX.1 tgt hdg ht (fun h90 => kt h90 ad ha9 hW (hls) (hst.2.2)) (fun h90 => kf h90 ad ha9 hW (hls) (hst.2.2))
theorem kk_if_le (hX : kk_ok X cc own nL fr lo mc ms) {x : Int32} {off : Int} (tgt : Nat) (hdg : decode cc pc = .ok (.ifCond .le off, 3)) (ht : (pc : Int) + off = (tgt : Int)) (kt : x ≤ 0 → kk_J X o Q k n tgt ls st τ I L r) (kf : ¬ x ≤ 0 → kk_J X o Q k n (pc + 3) ls st τ I L r) : kk_J X o Q k n pc ls (jI x :: st) τ I L r := by
  obtain ⟨⟨l, D, aC, ad0, A, sa⟩, p, e, R, s, m, args, below, meth, c⟩ := X
  intro ad ha9 hW hls hst
  exact jj_if_le (X := ((l, D, aC, ad, A, sa), p, e, R, s, m, args, below, meth, c)) hX.1 tgt hdg ht (fun h90 => kt h90 ad ha9 hW (hls) (hst.2)) (fun h90 => kf h90 ad ha9 hW (hls) (hst.2))
theorem kk_icmp_le (hX : kk_ok X cc own nL fr lo mc ms) {x y : Int32} {off : Int} (tgt : Nat) (hdg : decode cc pc = .ok (.if_icmp .le off, 3)) (ht : (pc : Int) + off = (tgt : Int)) (kt : x ≤ y → kk_J X o Q k n tgt ls st τ I L r) (kf : ¬ x ≤ y → kk_J X o Q k n (pc + 3) ls st τ I L r) : kk_J X o Q k n pc ls (jI y :: jI x :: st) τ I L r := by
  obtain ⟨⟨l, D, aC, ad0, A, sa⟩, p, e, R, s, m, args, below, meth, c⟩ := X
  intro ad ha9 hW hls hst
  exact jj_icmp_le (X := ((l, D, aC, ad, A, sa), p, e, R, s, m, args, below, meth, c)) hX.1 tgt hdg ht (fun h90 => kt h90 ad ha9 hW (hls) (hst.2.2)) (fun h90 => kf h90 ad ha9 hW (hls) (hst.2.2))
theorem kk_goto (hX : kk_ok X cc own nL fr lo mc ms) {off : Int} (tgt : Nat) (hdg : decode cc pc = .ok (.goto off, 3)) (ht : (pc : Int) + off = (tgt : Int)) (kk : kk_J X o Q k n tgt ls st τ I L r) : kk_J X o Q k n pc ls st τ I L r := by
  obtain ⟨⟨l, D, aC, ad0, A, sa⟩, p, e, R, s, m, args, below, meth, c⟩ := X
  intro ad ha9 hW hls hst
  exact jj_goto (X := ((l, D, aC, ad, A, sa), p, e, R, s, m, args, below, meth, c)) hX.1 tgt hdg ht (kk  ad ha9 hW (hls) (hst))
theorem kk_tabOut (hX : kk_ok X cc own nL fr lo mc ms) {dflt lw hi : Int} {offs : Array Int} {len : Nat} {x : Int32} (tgt : Nat) (hdg : decode cc pc = .ok (.tableswitch dflt lw hi offs, len)) (h : x.toInt < lw ∨ hi < x.toInt) (ht : (pc : Int) + dflt = (tgt : Int)) (kk : kk_J X o Q k n tgt ls st τ I L r) : kk_J X o Q k n pc ls (jI x :: st) τ I L r := by
  obtain ⟨⟨l, D, aC, ad0, A, sa⟩, p, e, R, s, m, args, below, meth, c⟩ := X
  intro ad ha9 hW hls hst
  exact jj_tabOut (X := ((l, D, aC, ad, A, sa), p, e, R, s, m, args, below, meth, c)) hX.1 tgt hdg h ht (kk  ad ha9 hW (hls) (hst.2))
theorem kk_tabIn (hX : kk_ok X cc own nL fr lo mc ms) {dflt lw hi off : Int} {offs : Array Int} {len : Nat} {x : Int32} (tgt : Nat) (hdg : decode cc pc = .ok (.tableswitch dflt lw hi offs, len)) (h1 : ¬ x.toInt < lw) (h2 : ¬ hi < x.toInt) (ho : offs[(x.toInt - lw).toNat]? = some off) (ht : (pc : Int) + off = (tgt : Int)) (kk : kk_J X o Q k n tgt ls st τ I L r) : kk_J X o Q k n pc ls (jI x :: st) τ I L r := by
  obtain ⟨⟨l, D, aC, ad0, A, sa⟩, p, e, R, s, m, args, below, meth, c⟩ := X
  intro ad ha9 hW hls hst
  exact jj_tabIn (X := ((l, D, aC, ad, A, sa), p, e, R, s, m, args, below, meth, c)) hX.1 tgt hdg h1 h2 ho ht (kk  ad ha9 hW (hls) (hst.2))
theorem kk_ifnull (hX : kk_ok X cc own nL fr lo mc ms) {x : Option Nat} {off : Int} (tgt : Nat) (hdg : decode cc pc = .ok (.ifnull off, 3)) (ht : (pc : Int) + off = (tgt : Int)) (kt : x = none → kk_J X o Q k n tgt ls st τ I L r) (kf : ∀ a, x = some a → kk_J X o Q k n (pc + 3) ls st τ I L r) : kk_J X o Q k n pc ls (jR x :: st) τ I L r := by
  obtain ⟨⟨l, D, aC, ad0, A, sa⟩, p, e, R, s, m, args, below, meth, c⟩ := X
  intro ad ha9 hW hls hst
  exact jj_ifnull (X := ((l, D, aC, ad, A, sa), p, e, R, s, m, args, below, meth, c)) hX.1 tgt hdg ht (fun h90 => kt h90 ad ha9 hW (hls) (hst.2)) (fun h90 h91 => kf h90 h91 ad ha9 hW (hls) (hst.2))
theorem kk_ifnonnull (hX : kk_ok X cc own nL fr lo mc ms) {x : Option Nat} {off : Int} (tgt : Nat) (hdg : decode cc pc = .ok (.ifnonnull off, 3)) (ht : (pc : Int) + off = (tgt : Int)) (kt : ∀ a, x = some a → kk_J X o Q k n tgt ls st τ I L r) (kf : x = none → kk_J X o Q k n (pc + 3) ls st τ I L r) : kk_J X o Q k n pc ls (jR x :: st) τ I L r := by
  obtain ⟨⟨l, D, aC, ad0, A, sa⟩, p, e, R, s, m, args, below, meth, c⟩ := X
  intro ad ha9 hW hls hst
  exact jj_ifnonnull (X := ((l, D, aC, ad, A, sa), p, e, R, s, m, args, below, meth, c)) hX.1 tgt hdg ht (fun h90 h91 => kt h90 h91 ad ha9 hW (hls) (hst.2)) (fun h90 => kf h90 ad ha9 hW (hls) (hst.2))
theorem kk_getI (hX : kk_ok X cc own nL fr lo mc ms) {idx ci f a : Nat} {fin : Bool} (hF : jj_FL own idx ci f fin) (hdg : decode cc pc = .ok (.getfield idx, 3)) (hτ : τ a = some (.inl ci)) (ht : jj_kd (jj_ty ci f) = 0) (kk : kk_J X o Q k n (pc + 3) ls (jI (I a f) :: st) τ I L r) : kk_J X o Q k n pc ls (jR (some a) :: st) τ I L r := by
  obtain ⟨⟨l, D, aC, ad0, A, sa⟩, p, e, R, s, m, args, below, meth, c⟩ := X
  intro ad ha9 hW hls hst
  exact jj_getI (X := ((l, D, aC, ad, A, sa), p, e, R, s, m, args, below, meth, c)) hX.1 hF hdg hτ ht (kk  ad ha9 hW (hls) (⟨trivial, hst.2⟩))
theorem kk_getL (hX : kk_ok X cc own nL fr lo mc ms) {idx ci f a : Nat} {fin : Bool} (hF : jj_FL own idx ci f fin) (hdg : decode cc pc = .ok (.getfield idx, 3)) (hτ : τ a = some (.inl ci)) (ht : jj_kd (jj_ty ci f) = 1) (kk : kk_J X o Q k n (pc + 3) ls (jL (L a f) :: st) τ I L r) : kk_J X o Q k n pc ls (jR (some a) :: st) τ I L r := by
  obtain ⟨⟨l, D, aC, ad0, A, sa⟩, p, e, R, s, m, args, below, meth, c⟩ := X
  intro ad ha9 hW hls hst
  exact jj_getL (X := ((l, D, aC, ad, A, sa), p, e, R, s, m, args, below, meth, c)) hX.1 hF hdg hτ ht (kk  ad ha9 hW (hls) (⟨trivial, hst.2⟩))
theorem kk_getR (hX : kk_ok X cc own nL fr lo mc ms) {idx ci f a : Nat} {fin : Bool} (hF : jj_FL own idx ci f fin) (hdg : decode cc pc = .ok (.getfield idx, 3)) (hτ : τ a = some (.inl ci)) {x : Option Nat} (ht : jj_kd (jj_ty ci f) = 2) (hx : r a f = x) (kk : kk_J X o Q k n (pc + 3) ls (jR x :: st) τ I L r) : kk_J X o Q k n pc ls (jR (some a) :: st) τ I L r := by
  obtain ⟨⟨l, D, aC, ad0, A, sa⟩, p, e, R, s, m, args, below, meth, c⟩ := X
  intro ad ha9 hW hls hst
  exact jj_getR (X := ((l, D, aC, ad, A, sa), p, e, R, s, m, args, below, meth, c)) hX.1 hF hdg hτ ht hx (kk  ad ha9 hW (hls) (⟨hW.cl (by rw [hτ]; exact fun z => by cases z) hx, hst.2⟩))
theorem kk_putI (hX : kk_ok X cc own nL fr lo mc ms) {idx ci f a : Nat} (hF : jj_FL own idx ci f false) (hdg : decode cc pc = .ok (.putfield idx, 3)) (hτ : τ a = some (.inl ci)) {x : Int32} (ht : jj_kd (jj_ty ci f) = 0) (hi : jj_ty ci f = .int) (kk : kk_J X o Q k n (pc + 3) ls st τ (jj_u I a f x) L r) : kk_J X o Q k n pc ls (jI x :: jR (some a) :: st) τ I L r := by
  obtain ⟨⟨l, D, aC, ad0, A, sa⟩, p, e, R, s, m, args, below, meth, c⟩ := X
  intro ad ha9 hW hls hst
  exact jj_putI (X := ((l, D, aC, ad, A, sa), p, e, R, s, m, args, below, meth, c)) hX.1 hF hdg hτ ht hi (kk  ad ha9 hW (hls) (hst.2.2))
theorem kk_putZ (hX : kk_ok X cc own nL fr lo mc ms) {idx ci f a : Nat} (hF : jj_FL own idx ci f false) (hdg : decode cc pc = .ok (.putfield idx, 3)) (hτ : τ a = some (.inl ci)) {x : Int32} (ht : jj_kd (jj_ty ci f) = 0) (hi : jj_ty ci f = .boolean) (hz : x = 0 ∨ x = 1) (kk : kk_J X o Q k n (pc + 3) ls st τ (jj_u I a f x) L r) : kk_J X o Q k n pc ls (jI x :: jR (some a) :: st) τ I L r := by
  obtain ⟨⟨l, D, aC, ad0, A, sa⟩, p, e, R, s, m, args, below, meth, c⟩ := X
  intro ad ha9 hW hls hst
  exact jj_putZ (X := ((l, D, aC, ad, A, sa), p, e, R, s, m, args, below, meth, c)) hX.1 hF hdg hτ ht hi hz (kk  ad ha9 hW (hls) (hst.2.2))
theorem kk_putL (hX : kk_ok X cc own nL fr lo mc ms) {idx ci f a : Nat} (hF : jj_FL own idx ci f false) (hdg : decode cc pc = .ok (.putfield idx, 3)) (hτ : τ a = some (.inl ci)) {x : Int64} (ht : jj_kd (jj_ty ci f) = 1) (kk : kk_J X o Q k n (pc + 3) ls st τ I (jj_u L a f x) r) : kk_J X o Q k n pc ls (jL x :: jR (some a) :: st) τ I L r := by
  obtain ⟨⟨l, D, aC, ad0, A, sa⟩, p, e, R, s, m, args, below, meth, c⟩ := X
  intro ad ha9 hW hls hst
  exact jj_putL (X := ((l, D, aC, ad, A, sa), p, e, R, s, m, args, below, meth, c)) hX.1 hF hdg hτ ht (kk  ad ha9 hW (hls) (hst.2.2))
theorem kk_putR (hX : kk_ok X cc own nL fr lo mc ms) {idx ci f a : Nat} (hF : jj_FL own idx ci f false) (hdg : decode cc pc = .ok (.putfield idx, 3)) (hτ : τ a = some (.inl ci)) {x : Option Nat} (ht : jj_kd (jj_ty ci f) = 2) (kk : kk_J X o Q k n (pc + 3) ls st τ I L (jj_u r a f x)) : kk_J X o Q k n pc ls (jR x :: jR (some a) :: st) τ I L r := by
  obtain ⟨⟨l, D, aC, ad0, A, sa⟩, p, e, R, s, m, args, below, meth, c⟩ := X
  intro ad ha9 hW hls hst
  exact jj_putR (X := ((l, D, aC, ad, A, sa), p, e, R, s, m, args, below, meth, c)) hX.1 hF hdg hτ ht (kk  ad ha9 (hW.put hst.1) (hls) (hst.2.2))
theorem kk_putIF (hX : kk_ok X cc own nL fr lo mc ms) {idx ci f a : Nat} (hin : jj_Ctor X) (hF : jj_FL own idx ci f true) (hO : ∃ q : vw_C, jj_cl[ci]? = some q ∧ (q.2.1 f).1 = own) (hdg : decode cc pc = .ok (.putfield idx, 3)) (hτ : τ a = some (.inl ci)) {x : Int32} (ht : jj_kd (jj_ty ci f) = 0) (hi : jj_ty ci f = .int) (kk : kk_J X o Q k n (pc + 3) ls st τ (jj_u I a f x) L r) : kk_J X o Q k n pc ls (jI x :: jR (some a) :: st) τ I L r := by
  obtain ⟨⟨l, D, aC, ad0, A, sa⟩, p, e, R, s, m, args, below, meth, c⟩ := X
  intro ad ha9 hW hls hst
  exact jj_putIF (X := ((l, D, aC, ad, A, sa), p, e, R, s, m, args, below, meth, c)) hX.1 hin hF hO hdg hτ ht hi (kk  ad ha9 hW (hls) (hst.2.2))
theorem kk_putZF (hX : kk_ok X cc own nL fr lo mc ms) {idx ci f a : Nat} (hin : jj_Ctor X) (hF : jj_FL own idx ci f true) (hO : ∃ q : vw_C, jj_cl[ci]? = some q ∧ (q.2.1 f).1 = own) (hdg : decode cc pc = .ok (.putfield idx, 3)) (hτ : τ a = some (.inl ci)) {x : Int32} (ht : jj_kd (jj_ty ci f) = 0) (hi : jj_ty ci f = .boolean) (hz : x = 0 ∨ x = 1) (kk : kk_J X o Q k n (pc + 3) ls st τ (jj_u I a f x) L r) : kk_J X o Q k n pc ls (jI x :: jR (some a) :: st) τ I L r := by
  obtain ⟨⟨l, D, aC, ad0, A, sa⟩, p, e, R, s, m, args, below, meth, c⟩ := X
  intro ad ha9 hW hls hst
  exact jj_putZF (X := ((l, D, aC, ad, A, sa), p, e, R, s, m, args, below, meth, c)) hX.1 hin hF hO hdg hτ ht hi hz (kk  ad ha9 hW (hls) (hst.2.2))
theorem kk_putLF (hX : kk_ok X cc own nL fr lo mc ms) {idx ci f a : Nat} (hin : jj_Ctor X) (hF : jj_FL own idx ci f true) (hO : ∃ q : vw_C, jj_cl[ci]? = some q ∧ (q.2.1 f).1 = own) (hdg : decode cc pc = .ok (.putfield idx, 3)) (hτ : τ a = some (.inl ci)) {x : Int64} (ht : jj_kd (jj_ty ci f) = 1) (kk : kk_J X o Q k n (pc + 3) ls st τ I (jj_u L a f x) r) : kk_J X o Q k n pc ls (jL x :: jR (some a) :: st) τ I L r := by
  obtain ⟨⟨l, D, aC, ad0, A, sa⟩, p, e, R, s, m, args, below, meth, c⟩ := X
  intro ad ha9 hW hls hst
  exact jj_putLF (X := ((l, D, aC, ad, A, sa), p, e, R, s, m, args, below, meth, c)) hX.1 hin hF hO hdg hτ ht (kk  ad ha9 hW (hls) (hst.2.2))
theorem kk_putRF (hX : kk_ok X cc own nL fr lo mc ms) {idx ci f a : Nat} (hin : jj_Ctor X) (hF : jj_FL own idx ci f true) (hO : ∃ q : vw_C, jj_cl[ci]? = some q ∧ (q.2.1 f).1 = own) (hdg : decode cc pc = .ok (.putfield idx, 3)) (hτ : τ a = some (.inl ci)) {x : Option Nat} (ht : jj_kd (jj_ty ci f) = 2) (kk : kk_J X o Q k n (pc + 3) ls st τ I L (jj_u r a f x)) : kk_J X o Q k n pc ls (jR x :: jR (some a) :: st) τ I L r := by
  obtain ⟨⟨l, D, aC, ad0, A, sa⟩, p, e, R, s, m, args, below, meth, c⟩ := X
  intro ad ha9 hW hls hst
  exact jj_putRF (X := ((l, D, aC, ad, A, sa), p, e, R, s, m, args, below, meth, c)) hX.1 hin hF hO hdg hτ ht (kk  ad ha9 (hW.put hst.1) (hls) (hst.2.2))
theorem kk_iald (hX : kk_ok X cc own nL fr lo mc ms) {a N : Nat} {i : Int32} {t : Nat} (j : Nat) (hdg : decode cc pc = .ok (.iaload, 1)) (hτ : τ a = some (.inr (t, N))) (hk : t = 0) (hi : i = nI j) (hj : j < N ∧ j < 2147483648) (kk : kk_J X o Q k n (pc + 1) ls (jI (I a j) :: st) τ I L r) : kk_J X o Q k n pc ls (jI i :: jR (some a) :: st) τ I L r := by
  obtain ⟨⟨l, D, aC, ad0, A, sa⟩, p, e, R, s, m, args, below, meth, c⟩ := X
  intro ad ha9 hW hls hst
  exact jj_iald (X := ((l, D, aC, ad, A, sa), p, e, R, s, m, args, below, meth, c)) hX.1 j hdg hτ hk hi hj (kk  ad ha9 hW (hls) (⟨trivial, hst.2.2⟩))
theorem kk_zald (hX : kk_ok X cc own nL fr lo mc ms) {a N : Nat} {i : Int32} {t : Nat} (j : Nat) (hdg : decode cc pc = .ok (.baload, 1)) (hτ : τ a = some (.inr (t, N))) (hk : t = 1) (hi : i = nI j) (hj : j < N ∧ j < 2147483648) (kk : kk_J X o Q k n (pc + 1) ls (jI (I a j) :: st) τ I L r) : kk_J X o Q k n pc ls (jI i :: jR (some a) :: st) τ I L r := by
  obtain ⟨⟨l, D, aC, ad0, A, sa⟩, p, e, R, s, m, args, below, meth, c⟩ := X
  intro ad ha9 hW hls hst
  exact jj_zald (X := ((l, D, aC, ad, A, sa), p, e, R, s, m, args, below, meth, c)) hX.1 j hdg hτ hk hi hj (kk  ad ha9 hW (hls) (⟨trivial, hst.2.2⟩))
theorem kk_lald (hX : kk_ok X cc own nL fr lo mc ms) {a N : Nat} {i : Int32} {t : Nat} (j : Nat) (hdg : decode cc pc = .ok (.laload, 1)) (hτ : τ a = some (.inr (t, N))) (hk : t = 2) (hi : i = nI j) (hj : j < N ∧ j < 2147483648) (kk : kk_J X o Q k n (pc + 1) ls (jL (L a j) :: st) τ I L r) : kk_J X o Q k n pc ls (jI i :: jR (some a) :: st) τ I L r := by
  obtain ⟨⟨l, D, aC, ad0, A, sa⟩, p, e, R, s, m, args, below, meth, c⟩ := X
  intro ad ha9 hW hls hst
  exact jj_lald (X := ((l, D, aC, ad, A, sa), p, e, R, s, m, args, below, meth, c)) hX.1 j hdg hτ hk hi hj (kk  ad ha9 hW (hls) (⟨trivial, hst.2.2⟩))
theorem kk_aald (hX : kk_ok X cc own nL fr lo mc ms) {a N : Nat} {i : Int32} {t : Nat} (j : Nat) (hdg : decode cc pc = .ok (.aaload, 1)) (hτ : τ a = some (.inr (t, N))) (hk : 3 ≤ t) (hi : i = nI j) (hj : j < N ∧ j < 2147483648) {x : Option Nat} (hx : r a j = x) (kk : kk_J X o Q k n (pc + 1) ls (jR x :: st) τ I L r) : kk_J X o Q k n pc ls (jI i :: jR (some a) :: st) τ I L r := by
  obtain ⟨⟨l, D, aC, ad0, A, sa⟩, p, e, R, s, m, args, below, meth, c⟩ := X
  intro ad ha9 hW hls hst
  exact jj_aald (X := ((l, D, aC, ad, A, sa), p, e, R, s, m, args, below, meth, c)) hX.1 j hdg hτ hk hi hj hx (kk  ad ha9 hW (hls) (⟨hW.cl (by rw [hτ]; exact fun z => by cases z) hx, hst.2.2⟩))
theorem kk_alen (hX : kk_ok X cc own nL fr lo mc ms) {a N t : Nat} (hdg : decode cc pc = .ok (.arraylength, 1)) (hτ : τ a = some (.inr (t, N))) (kk : kk_J X o Q k n (pc + 1) ls (jI (nI N) :: st) τ I L r) : kk_J X o Q k n pc ls (jR (some a) :: st) τ I L r := by
  obtain ⟨⟨l, D, aC, ad0, A, sa⟩, p, e, R, s, m, args, below, meth, c⟩ := X
  intro ad ha9 hW hls hst
  exact jj_alen (X := ((l, D, aC, ad, A, sa), p, e, R, s, m, args, below, meth, c)) hX.1 hdg hτ (kk  ad ha9 hW (hls) (⟨trivial, hst.2⟩))
theorem kk_iast (hX : kk_ok X cc own nL fr lo mc ms) {a N : Nat} {i : Int32} (j : Nat) {x : Int32} (hdg : decode cc pc = .ok (.iastore, 1)) (hτ : τ a = some (.inr (0, N))) (hi : i = nI j) (hj : j < N ∧ j < 2147483648) (kk : kk_J X o Q k n (pc + 1) ls st τ (jj_u I a j x) L r) : kk_J X o Q k n pc ls (jI x :: jI i :: jR (some a) :: st) τ I L r := by
  obtain ⟨⟨l, D, aC, ad0, A, sa⟩, p, e, R, s, m, args, below, meth, c⟩ := X
  intro ad ha9 hW hls hst
  exact jj_iast (X := ((l, D, aC, ad, A, sa), p, e, R, s, m, args, below, meth, c)) hX.1 j hdg hτ hi hj (kk  ad ha9 hW (hls) (hst.2.2.2))
theorem kk_zast (hX : kk_ok X cc own nL fr lo mc ms) {a N : Nat} {i : Int32} (j : Nat) {x : Int32} (hdg : decode cc pc = .ok (.bastore, 1)) (hτ : τ a = some (.inr (1, N))) (hi : i = nI j) (hj : j < N ∧ j < 2147483648) (hz : x = 0 ∨ x = 1) (kk : kk_J X o Q k n (pc + 1) ls st τ (jj_u I a j x) L r) : kk_J X o Q k n pc ls (jI x :: jI i :: jR (some a) :: st) τ I L r := by
  obtain ⟨⟨l, D, aC, ad0, A, sa⟩, p, e, R, s, m, args, below, meth, c⟩ := X
  intro ad ha9 hW hls hst
  exact jj_zast (X := ((l, D, aC, ad, A, sa), p, e, R, s, m, args, below, meth, c)) hX.1 j hdg hτ hi hj hz (kk  ad ha9 hW (hls) (hst.2.2.2))
theorem kk_last (hX : kk_ok X cc own nL fr lo mc ms) {a N : Nat} {i : Int32} (j : Nat) {x : Int64} (hdg : decode cc pc = .ok (.lastore, 1)) (hτ : τ a = some (.inr (2, N))) (hi : i = nI j) (hj : j < N ∧ j < 2147483648) (kk : kk_J X o Q k n (pc + 1) ls st τ I (jj_u L a j x) r) : kk_J X o Q k n pc ls (jL x :: jI i :: jR (some a) :: st) τ I L r := by
  obtain ⟨⟨l, D, aC, ad0, A, sa⟩, p, e, R, s, m, args, below, meth, c⟩ := X
  intro ad ha9 hW hls hst
  exact jj_last (X := ((l, D, aC, ad, A, sa), p, e, R, s, m, args, below, meth, c)) hX.1 j hdg hτ hi hj (kk  ad ha9 hW (hls) (hst.2.2.2))
theorem kk_cast (hX : kk_ok X cc own nL fr lo mc ms) {idx ci a : Nat} {C : String} {T : u_T} {N : Nat} (hdg : decode cc pc = .ok (.checkcast idx, 3)) (hc : jj_cl[ci]? = some (C, T, N)) (hτ : τ a = some (.inl ci)) (hw : Cond.classLink own idx C ∈ lw_all) (kk : kk_J X o Q k n (pc + 3) ls (jR (some a) :: st) τ I L r) : kk_J X o Q k n pc ls (jR (some a) :: st) τ I L r := by
  obtain ⟨⟨l, D, aC, ad0, A, sa⟩, p, e, R, s, m, args, below, meth, c⟩ := X
  intro ad ha9 hW hls hst
  exact jj_cast (X := ((l, D, aC, ad, A, sa), p, e, R, s, m, args, below, meth, c)) hX.1 hdg hc hτ hw (kk  ad ha9 hW (hls) (⟨hst.1, hst.2⟩))
theorem kk_castN (hX : kk_ok X cc own nL fr lo mc ms) {idx : Nat} (hdg : decode cc pc = .ok (.checkcast idx, 3)) (kk : kk_J X o Q k n (pc + 3) ls (jR none :: st) τ I L r) : kk_J X o Q k n pc ls (jR none :: st) τ I L r := by
  obtain ⟨⟨l, D, aC, ad0, A, sa⟩, p, e, R, s, m, args, below, meth, c⟩ := X
  intro ad ha9 hW hls hst
  exact jj_castN (X := ((l, D, aC, ad, A, sa), p, e, R, s, m, args, below, meth, c)) hX.1 hdg (kk  ad ha9 hW (hls) (⟨hst.1, hst.2⟩))
theorem kk_aast (hX : kk_ok X cc own nL fr lo mc ms) {a N : Nat} {i : Int32} {t ci v : Nat} {C E : String} {T : u_T} {NN : Nat} (j : Nat) (hdg : decode cc pc = .ok (.aastore, 1)) (hτ : τ a = some (.inr (t, N))) (h3 : 3 ≤ t) (ht : jj_aty t = .object E) (hi : i = nI j) (hj : j < N ∧ j < 2147483648) (hv : τ v = some (.inl ci)) (hc : jj_cl[ci]? = some (C, T, NN)) (hw : Cond.castable C E ∈ jj_tw) (kk : kk_J X o Q k n (pc + 1) ls st τ I L (jj_u r a j (some v))) : kk_J X o Q k n pc ls (jR (some v) :: jI i :: jR (some a) :: st) τ I L r := by
  obtain ⟨⟨l, D, aC, ad0, A, sa⟩, p, e, R, s, m, args, below, meth, c⟩ := X
  intro ad ha9 hW hls hst
  exact jj_aast (X := ((l, D, aC, ad, A, sa), p, e, R, s, m, args, below, meth, c)) hX.1 j hdg hτ h3 ht hi hj hv hc hw (kk  ad ha9 (hW.put hst.1) (hls) (hst.2.2.2))
theorem kk_aastN (hX : kk_ok X cc own nL fr lo mc ms) {a N : Nat} {i : Int32} {t : Nat} {E : String} (j : Nat) (hdg : decode cc pc = .ok (.aastore, 1)) (hτ : τ a = some (.inr (t, N))) (h3 : 3 ≤ t) (ht : jj_aty t = .object E) (hi : i = nI j) (hj : j < N ∧ j < 2147483648) (kk : kk_J X o Q k n (pc + 1) ls st τ I L (jj_u r a j none)) : kk_J X o Q k n pc ls (jR none :: jI i :: jR (some a) :: st) τ I L r := by
  obtain ⟨⟨l, D, aC, ad0, A, sa⟩, p, e, R, s, m, args, below, meth, c⟩ := X
  intro ad ha9 hW hls hst
  exact jj_aastN (X := ((l, D, aC, ad, A, sa), p, e, R, s, m, args, below, meth, c)) hX.1 j hdg hτ h3 ht hi hj (kk  ad ha9 (hW.put trivial) (hls) (hst.2.2.2))

theorem kk_rq {τ : jj_T} {b : Nat} (h : kk_r τ b) (h4 : b ≠ 5) (h5 : b ≠ 6) : kk_q τ b := h.imp id (fun q => by omega)
def kk_x (x : Option Nat) : Prop := x ≠ some 5 ∧ x ≠ some 6

theorem kk_acmp_eq (hX : kk_ok X cc own nL fr lo mc ms) {x y : Option Nat} {off : Int} (tgt : Nat) (hx : kk_x x) (hy : kk_x y) (hdg : decode cc pc = .ok (.if_acmp .eq off, 3)) (ht : (pc : Int) + off = (tgt : Int)) (kt : x = y → kk_J X o Q k n tgt ls st τ I L r) (kf : ¬ x = y → kk_J X o Q k n (pc + 3) ls st τ I L r) : kk_J X o Q k n pc ls (jR y :: jR x :: st) τ I L r := by
  obtain ⟨⟨l, D, aC, ad0, A, sa⟩, p, e, R, s, m, args, below, meth, c⟩ := X
  intro ad ha9 hW hls hst
  exact jj_acmp_eq (X := ((l, D, aC, ad, A, sa), p, e, R, s, m, args, below, meth, c)) hX.1 tgt (fun a b ha hb h => hW.2.2.1 a b (kk_rq (kk_rv hst.2.1 a ha) (fun q => hx.1 (by rw [ha, q])) (fun q => hx.2 (by rw [ha, q]))) (kk_rq (kk_rv hst.1 b hb) (fun q => hy.1 (by rw [hb, q])) (fun q => hy.2 (by rw [hb, q]))) h) hdg ht (fun h9 => kt h9 ad ha9 hW hls hst.2.2) (fun h9 => kf h9 ad ha9 hW hls hst.2.2)
theorem kk_acmp_ne (hX : kk_ok X cc own nL fr lo mc ms) {x y : Option Nat} {off : Int} (tgt : Nat) (hx : kk_x x) (hy : kk_x y) (hdg : decode cc pc = .ok (.if_acmp .ne off, 3)) (ht : (pc : Int) + off = (tgt : Int)) (kt : ¬ x = y → kk_J X o Q k n tgt ls st τ I L r) (kf : x = y → kk_J X o Q k n (pc + 3) ls st τ I L r) : kk_J X o Q k n pc ls (jR y :: jR x :: st) τ I L r := by
  obtain ⟨⟨l, D, aC, ad0, A, sa⟩, p, e, R, s, m, args, below, meth, c⟩ := X
  intro ad ha9 hW hls hst
  exact jj_acmp_ne (X := ((l, D, aC, ad, A, sa), p, e, R, s, m, args, below, meth, c)) hX.1 tgt (fun a b ha hb h => hW.2.2.1 a b (kk_rq (kk_rv hst.2.1 a ha) (fun q => hx.1 (by rw [ha, q])) (fun q => hx.2 (by rw [ha, q]))) (kk_rq (kk_rv hst.1 b hb) (fun q => hy.1 (by rw [hb, q])) (fun q => hy.2 (by rw [hb, q]))) h) hdg ht (fun h9 => kt h9 ad ha9 hW hls hst.2.2) (fun h9 => kf h9 ad ha9 hW hls hst.2.2)
theorem kk_gets0 (hX : kk_ok X cc own nL fr lo mc ms) {idx : Nat} (hdg : decode cc pc = .ok (.getstatic idx, 3)) (hw : Cond.fieldLink own idx "java/util/ArrayList" "DEFAULTCAPACITY_EMPTY_ELEMENTDATA" "[Ljava/lang/Object;" ∈ lw_all) (kk : kk_J X o Q k n (pc + 3) ls (jR (some 0) :: st) τ I L r) : kk_J X o Q k n pc ls st τ I L r := by
  obtain ⟨⟨l, D, aC, ad0, A, sa⟩, p, e, R, s, m, args, below, meth, c⟩ := X
  intro ad ha9 hW hls hst
  exact jj_gets0 (X := ((l, D, aC, ad, A, sa), p, e, R, s, m, args, below, meth, c)) hX.1 0 (hW.1 0 (by decide)) hdg hw (kk ad ha9 hW hls ⟨Or.inl (by rw [hW.2.1.1]; exact fun z => by cases z), hst⟩)
theorem kk_gets1 (hX : kk_ok X cc own nL fr lo mc ms) {idx : Nat} (hdg : decode cc pc = .ok (.getstatic idx, 3)) (hw : Cond.fieldLink own idx "BranchCells$State" "RUNS" "LBranchCells$State;" ∈ lw_all) (kk : kk_J X o Q k n (pc + 3) ls (jR (some 1) :: st) τ I L r) : kk_J X o Q k n pc ls st τ I L r := by
  obtain ⟨⟨l, D, aC, ad0, A, sa⟩, p, e, R, s, m, args, below, meth, c⟩ := X
  intro ad ha9 hW hls hst
  exact jj_gets1 (X := ((l, D, aC, ad, A, sa), p, e, R, s, m, args, below, meth, c)) hX.1 1 (hW.1 1 (by decide)) hdg hw (kk ad ha9 hW hls ⟨Or.inr ⟨by decide, by decide⟩, hst⟩)
theorem kk_gets2 (hX : kk_ok X cc own nL fr lo mc ms) {idx : Nat} (hdg : decode cc pc = .ok (.getstatic idx, 3)) (hw : Cond.fieldLink own idx "BranchCells$State" "ENDED" "LBranchCells$State;" ∈ lw_all) (kk : kk_J X o Q k n (pc + 3) ls (jR (some 2) :: st) τ I L r) : kk_J X o Q k n pc ls st τ I L r := by
  obtain ⟨⟨l, D, aC, ad0, A, sa⟩, p, e, R, s, m, args, below, meth, c⟩ := X
  intro ad ha9 hW hls hst
  exact jj_gets2 (X := ((l, D, aC, ad, A, sa), p, e, R, s, m, args, below, meth, c)) hX.1 2 (hW.1 2 (by decide)) hdg hw (kk ad ha9 hW hls ⟨Or.inr ⟨by decide, by decide⟩, hst⟩)
theorem kk_gets3 (hX : kk_ok X cc own nL fr lo mc ms) {idx : Nat} (hdg : decode cc pc = .ok (.getstatic idx, 3)) (hw : Cond.fieldLink own idx "BranchCells$State" "FAILED" "LBranchCells$State;" ∈ lw_all) (kk : kk_J X o Q k n (pc + 3) ls (jR (some 3) :: st) τ I L r) : kk_J X o Q k n pc ls st τ I L r := by
  obtain ⟨⟨l, D, aC, ad0, A, sa⟩, p, e, R, s, m, args, below, meth, c⟩ := X
  intro ad ha9 hW hls hst
  exact jj_gets3 (X := ((l, D, aC, ad, A, sa), p, e, R, s, m, args, below, meth, c)) hX.1 3 (hW.1 3 (by decide)) hdg hw (kk ad ha9 hW hls ⟨Or.inr ⟨by decide, by decide⟩, hst⟩)
theorem kk_gets4 (hX : kk_ok X cc own nL fr lo mc ms) {idx : Nat} (hdg : decode cc pc = .ok (.getstatic idx, 3)) (hw : Cond.fieldLink own idx "java/lang/Throwable" "UNASSIGNED_STACK" "[Ljava/lang/StackTraceElement;" ∈ lw_all) (kk : kk_J X o Q k n (pc + 3) ls (jR (some 5) :: st) τ I L r) : kk_J X o Q k n pc ls st τ I L r := by
  obtain ⟨⟨l, D, aC, ad0, A, sa⟩, p, e, R, s, m, args, below, meth, c⟩ := X
  intro ad ha9 hW hls hst
  exact jj_gets4 (X := ((l, D, aC, ad, A, sa), p, e, R, s, m, args, below, meth, c)) hX.1 5 (hW.1 5 (by decide)) hdg hw (kk ad ha9 hW hls ⟨Or.inr ⟨by decide, by decide⟩, hst⟩)
theorem kk_gets5 (hX : kk_ok X cc own nL fr lo mc ms) {idx : Nat} (hdg : decode cc pc = .ok (.getstatic idx, 3)) (hw : Cond.fieldLink own idx "java/lang/Throwable" "SUPPRESSED_SENTINEL" "Ljava/util/List;" ∈ lw_all) (kk : kk_J X o Q k n (pc + 3) ls (jR (some 6) :: st) τ I L r) : kk_J X o Q k n pc ls st τ I L r := by
  obtain ⟨⟨l, D, aC, ad0, A, sa⟩, p, e, R, s, m, args, below, meth, c⟩ := X
  intro ad ha9 hW hls hst
  exact jj_gets5 (X := ((l, D, aC, ad, A, sa), p, e, R, s, m, args, below, meth, c)) hX.1 6 (hW.1 6 (by decide)) hdg hw (kk ad ha9 hW hls ⟨Or.inr ⟨by decide, by decide⟩, hst⟩)
theorem kk_objInit (hX : kk_ok X cc own nL fr lo mc ms) {idx a : Nat} (hdg : decode cc pc = .ok (.invokespecial idx, 3)) (h1 : Cond.methodLink own idx Lib.objectInit ∈ lw_all) (h2 : Cond.instanceMethod Lib.objectInit ∈ lw_all) (h3 : Cond.code Lib.objectInit ⟨#[0xb1]⟩ 1 none ∈ lw_all) (hn : 1 ≤ fr ∧ jj_wt st + 12 ≤ lo) (kk : kk_J X o Q k n (pc + 3) ls st τ I L r) : kk_J X o Q k n pc ls (jR (some a) :: st) τ I L r := by
  obtain ⟨⟨l, D, aC, ad0, A, sa⟩, p, e, R, s, m, args, below, meth, c⟩ := X
  intro ad ha9 hW hls hst
  exact jj_objInit (X := ((l, D, aC, ad, A, sa), p, e, R, s, m, args, below, meth, c)) hX.1 hdg h1 h2 h3 hn (kk ad ha9 hW hls hst.2)
theorem kk_athrow (hX : kk_ok X cc own nL fr lo mc ms) {a : Nat} (hdg : decode cc pc = .ok (.athrow, 1)) (hτ : τ a = some (.inl 32)) (kk : kk_JT X o Q k n pc ls a τ I L r) : kk_J X o Q k n pc ls (jR (some a) :: st) τ I L r := by
  obtain ⟨⟨l, D, aC, ad0, A, sa⟩, p, e, R, s, m, args, below, meth, c⟩ := X
  intro ad ha9 hW hls hst
  exact jj_athrow (X := ((l, D, aC, ad, A, sa), p, e, R, s, m, args, below, meth, c)) hX.1 hdg hτ (kk ad ha9 hW hls)
theorem kk_catch (hX : kk_ok X cc own nL fr lo mc ms) {x : ExceptionTableEntry} {a : Nat} (hT : jj_Tbl X [x]) (hx : covers x pc = true) (h0 : x.catchType ≠ 0) (h1 : Cond.classLink own x.catchType "BranchCells$Failing" ∈ lw_all) (h2 : Cond.castable "BranchCells$Failing" "BranchCells$Failing" ∈ jj_tw) (kk : τ a = some (.inl 32) → kk_J X o Q k n x.handlerPc ls [jR (some a)] τ I L r) : kk_JT X o Q k n pc ls a τ I L r := by
  obtain ⟨⟨l, D, aC, ad0, A, sa⟩, p, e, R, s, m, args, below, meth, c⟩ := X
  intro ad ha9 hW hls
  exact jj_catch (X := ((l, D, aC, ad, A, sa), p, e, R, s, m, args, below, meth, c)) hX.1 hT hx h0 h1 h2 (fun h9 => kk h9 ad ha9 hW hls ⟨Or.inl (by rw [h9]; exact fun z => by cases z), trivial⟩)
end KR

theorem kk_old {τ : jj_T} {v h : Nat} {ad : Nat → Nat} (hv : τ v = none ∧ ¬ (1 ≤ v ∧ v ≤ 6)) {b : Nat} (hb : kk_r τ b) : (if b = v then h else ad b) = ad b := if_neg fun q => by
  subst q
  exact hb.elim (fun z => z hv.1) hv.2
theorem kk_oldc {τ : jj_T} {v h : Nat} {ad : Nat → Nat} (hv : τ v = none ∧ ¬ (1 ≤ v ∧ v ≤ 6)) {u : jj_v} (hu : kk_v τ u) : jj_c (fun b => if b = v then h else ad b) u = jj_c ad u := by
  rcases u with x | x | x
  · rfl
  · rfl
  · cases x with
    | none => rfl
    | some b => show va_rf (some (if b = v then h else ad b)) = va_rf (some (ad b)); rw [kk_old hv hu]
theorem kk_oldm {τ : jj_T} {v h : Nat} {ad : Nat → Nat} (hv : τ v = none ∧ ¬ (1 ≤ v ∧ v ≤ 6)) : ∀ {st : List jj_v}, kk_vs τ st → st.map (jj_c (fun b => if b = v then h else ad b)) = st.map (jj_c ad) := by
  intro st
  induction st with
  | nil => intro _; rfl
  | cons u t ih => intro h; rw [List.map_cons, List.map_cons, ih h.2, kk_oldc hv h.1]
theorem kk_oldl {τ : jj_T} {v h : Nat} {ad : Nat → Nat} (hv : τ v = none ∧ ¬ (1 ≤ v ∧ v ≤ 6)) : ∀ {ls : List (Nat × jj_v)}, kk_ls τ ls → jj_ml (fun b => if b = v then h else ad b) ls = jj_ml ad ls := by
  intro ls
  induction ls with
  | nil => intro _; rfl
  | cons u t ih => intro h; show (u.1, _) :: jj_ml _ t = _; rw [ih h.2, kk_oldc hv h.1]; rfl
theorem kk_mono {τ : jj_T} {v : Nat} {t : Nat ⊕ (Nat × Nat)} {b : Nat} (h : kk_r τ b) : kk_r (jj_t τ v t) b := by
  rcases h with h | h
  · left
    by_cases hb : b = v
    · rw [hb, jj_ts]; exact fun z => by cases z
    · rw [jj_tn hb]; exact h
  · exact Or.inr h
theorem kk_monv {τ τ' : jj_T} (hm : ∀ b, kk_r τ b → kk_r τ' b) {u : jj_v} (h : kk_v τ u) : kk_v τ' u := by
  rcases u with x | x | x
  · trivial
  · trivial
  · cases x with
    | none => trivial
    | some b => exact hm b h
theorem kk_mons {τ τ' : jj_T} (hm : ∀ b, kk_r τ b → kk_r τ' b) : ∀ {st : List jj_v}, kk_vs τ st → kk_vs τ' st := by
  intro st
  induction st with
  | nil => intro _; trivial
  | cons u t ih => intro h; exact ⟨kk_monv hm h.1, ih h.2⟩
theorem kk_monl {τ τ' : jj_T} (hm : ∀ b, kk_r τ b → kk_r τ' b) : ∀ {ls : List (Nat × jj_v)}, kk_ls τ ls → kk_ls τ' ls := by
  intro ls
  induction ls with
  | nil => intro _; trivial
  | cons u t ih => intro h; exact ⟨kk_monv hm h.1, ih h.2⟩
theorem kk_W.new {sa ad : Nat → Nat} {o τ : jj_T} {r : jj_R} (hW : kk_W sa ad o τ r) {v h : Nat} (hv : τ v = none ∧ ¬ (1 ≤ v ∧ v ≤ 6)) (hf : ∀ b, kk_q τ b → ad b ≠ h) (t : Nat ⊕ (Nat × Nat)) : kk_W sa (fun b => if b = v then h else ad b) o (jj_t τ v t) (jj_z r v none) := by
  obtain ⟨h1, ⟨h2, h3⟩, h4, h5, h6, N, h7⟩ := hW
  have hv0 : v ≠ 0 := fun q => by rw [q] at hv; rw [h2] at hv; exact absurd hv.1 (fun z => by cases z)
  refine ⟨fun i hi => ?_, ⟨by rw [jj_tn (Ne.symm hv0)]; exact h2, fun i a b => by rw [jj_tn (by omega)]; exact h3 i a b⟩, fun a b ha hb hab => ?_, fun a ha => ?_, fun a j b ha hb => ?_, max N (v + 1), fun w hw => ?_⟩
  · show (if i = v then h else ad i) = sa i
    rw [if_neg (by omega)]; exact h1 i hi
  · have back : ∀ c, kk_q (jj_t τ v t) c → c ≠ v → kk_q τ c := fun c hc hcv => by
      rcases hc with hc | hc
      · rw [jj_tn hcv] at hc; exact Or.inl hc
      · exact Or.inr hc
    have hab : (if a = v then h else ad a) = (if b = v then h else ad b) := hab
    by_cases qa : a = v
    · by_cases qb : b = v
      · rw [qa, qb]
      · rw [if_pos qa, if_neg qb] at hab
        exact absurd hab.symm (hf b (back b hb qb))
    · by_cases qb : b = v
      · rw [if_neg qa, if_pos qb] at hab
        exact absurd hab (hf a (back a ha qa))
      · rw [if_neg qa, if_neg qb] at hab
        exact h4 a b (back a ha qa) (back b hb qb) hab
  · have h9 := h5 a ha
    rw [jj_tn (fun q => by subst q; rw [← h9] at ha; exact ha hv.1)]; exact h9
  · by_cases qa : a = v
    · rw [qa] at hb
      rw [jj_zs] at hb
      cases hb
    · rw [jj_zn qa] at hb
      rw [jj_tn qa] at ha
      exact kk_mono (h6 a j b ha hb)
  · rw [jj_tn (by omega)]; exact h7 w (by omega)
theorem kk_V.new {D : va_G} {aC : Nat → ClassId} {ad : Nat → Nat} {A : Nat → Prop} {τ : jj_T} {I : jj_I} {L : jj_L} {r : jj_R} {H H1 : Heap} (hV : jj_V D aC ad A τ I L r H) {t : Nat ⊕ (Nat × Nat)} {v : Nat} (hv : τ v = none ∧ ¬ (1 ≤ v ∧ v ≤ 6)) (hcl : ∀ a j b, τ a ≠ none → r a j = some b → kk_r τ b) (hA : A H.size) (o1 : ∀ q, q < H.size → H1[q]? = H[q]?) (hat : jj_at D aC (fun b => if b = v then H.size else ad b) (jj_z I v 0) (jj_z L v 0) (jj_z r v none) v t H1) :
    jj_V D aC (fun b => if b = v then H.size else ad b) A (jj_t τ v t) (jj_z I v 0) (jj_z L v 0) (jj_z r v none) H1 := by
  have hmp : ∀ b, τ b ≠ none → ∀ j, (r b j).map (fun b => if b = v then H.size else ad b) = (r b j).map ad := fun b hb j => by
    cases hq : r b j with
    | none => rfl
    | some c => show some (if c = v then H.size else ad c) = some (ad c); rw [kk_old hv (hcl b j c hb hq)]
  refine ⟨fun b tb hb => ?_, fun a b ha hb hab => ?_, fun a ta hta hne => ?_⟩
  · by_cases hq : b = v
    · subst hq
      rw [jj_ts] at hb
      cases hb
      exact hat
    · rw [jj_tn hq] at hb
      have h := hV.1 b tb hb
      have hlt : ad b < H.size := h.lt
      have h2 := o1 (ad b) hlt
      have hbn : τ b ≠ none := by rw [hb]; exact fun z => by cases z
      have hfv : ∀ d j, jj_fv d (fun b => if b = v then H.size else ad b) (I b j) (L b j) (r b j) = jj_fv d ad (I b j) (L b j) (r b j) := fun d j => by
        match d with
        | 0 => rfl
        | 1 => rfl
        | d + 2 => show va_rf ((r b j).map _) = va_rf ((r b j).map ad); rw [hmp b hbn j]
      cases tb with
      | inl ci =>
        obtain ⟨q, h3, h4⟩ := h
        refine ⟨q, h3, ?_⟩
        rw [jj_zn hq, jj_zn hq, jj_zn hq]
        show t_OB (if b = v then H.size else ad b) _ _ _ _ _
        rw [if_neg hq]
        exact (h4.kept h2).to fun j _ => (hfv _ j).symm
      | inr tn =>
        obtain ⟨h3, h4⟩ := h
        refine ⟨h3, ?_⟩
        rw [jj_zn hq, jj_zn hq, jj_zn hq]
        show H1[if b = v then H.size else ad b]? = _
        rw [if_neg hq, h2.trans h4]
        congr 2
        funext j
        exact (hfv _ j).symm
  · have hab : (if a = v then H.size else ad a) = (if b = v then H.size else ad b) := hab
    have hlt : ∀ c, c ≠ v → jj_t τ v t c ≠ none → ad c < H.size ∧ τ c ≠ none := fun c hc hcn => by
      rw [jj_tn hc] at hcn
      cases hq : τ c with
      | none => exact absurd hq hcn
      | some tc => exact ⟨(hV.1 c tc hq).lt, fun z => by cases z⟩
    by_cases qa : a = v
    · by_cases qb : b = v
      · rw [qa, qb]
      · rw [if_pos qa, if_neg qb] at hab
        have := (hlt b qb hb).1
        omega
    · by_cases qb : b = v
      · rw [if_neg qa, if_pos qb] at hab
        have := (hlt a qa ha).1
        omega
      · rw [if_neg qa, if_neg qb] at hab
        exact hV.2.1 a b (hlt a qa ha).2 (hlt b qb hb).2 hab
  · show A (if a = v then H.size else ad a)
    by_cases hq : a = v
    · rw [if_pos hq]; exact hA
    · rw [if_neg hq]
      rw [jj_tn hq] at hta
      exact hV.2.2 a ta hta hne
theorem kk_lt {D : va_G} {aC : Nat → ClassId} {ad sa : Nat → Nat} {A : Nat → Prop} {o τ : jj_T} {I : jj_I} {L : jj_L} {r : jj_R} {H : Heap} (hV : jj_V D aC ad A τ I L r H) (hW : kk_W sa ad o τ r) (hs : ∀ i, i ≤ 6 → sa i < H.size) : ∀ b, kk_q τ b → ad b ≠ H.size := by
  intro b hb
  rcases hb with hb | hb
  · cases hq : τ b with
    | none => exact absurd hq hb
    | some t => exact Nat.ne_of_lt (hV.1 b t hq).lt
  · rw [hW.1 b (by omega)]; exact Nat.ne_of_lt (hs b (by omega))
section KN
variable {X : jj_X} {o : jj_T} {cc : ByteArray} {own : String} {nL fr lo mc ms : Nat} {Q : State → Prop} {k n pc : Nat} {ls : List (Nat × jj_v)} {st : List jj_v} {τ : jj_T} {I : jj_I} {L : jj_L} {r : jj_R}

theorem kk_new (hX : kk_ok X cc own nL fr lo mc ms) {idx ci Ni : Nat} {C : String} {T : u_T} {N : Nat} (v : Nat) (hv : τ v = none ∧ ¬ (1 ≤ v ∧ v ≤ 6)) (hF : jj_Fr X) (hdg : decode cc pc = .ok (.new idx, 3)) (hc : jj_cl[ci]? = some (C, T, N)) (h1 : Cond.classLink own idx C ∈ lw_all) (h2 : Cond.instantiable C Ni ∈ lw_all) (h3 : Cond.initialized C ∈ lw_all) (hd : ∀ j, j < N → jj_kd (jj_ty ci j) ≤ 2) (hr : k + 1 ≤ mc ∧ n + Ni ≤ ms) (kk : kk_J X o Q (k + 1) (n + Ni) (pc + 3) ls (jR (some v) :: st) (jj_t τ v (.inl ci)) (jj_z I v 0) (jj_z L v 0) (jj_z r v none)) : kk_J X o Q k n pc ls st τ I L r := by
  obtain ⟨⟨l, D, aC, ad0, A, sa⟩, p, e, R, s, m, args, below, meth, c⟩ := X
  intro ad ha9 hW hls hst H locs la hl hV hS
  have hX' := hX.1
  obtain ⟨hx, hb, -, hown, hts, hK, -, -, -, -, -, -, hRc, hRs⟩ := hX'
  have hKn := hK.1 ci _ hc
  refine W.newcK hx hb hown (hts _ h1) (hts _ h2) (hts _ h3) rfl hdg (by rw [hRc]; exact hr.1) (by rw [hRs]; exact hr.2) hKn.2.1 rfl fun H1 kC hkC e1 z1 o1 => ?_
  have hW' := hW.new hv (kk_lt hV hW (fun i hi => Nat.lt_of_lt_of_le (hX.2 i hi) hS.1)) (.inl ci)
  have hm : ∀ b, kk_r τ b → kk_r (jj_t τ v (.inl ci)) b := fun b => kk_mono
  have hl' : lv_has la c.maxLocals (jj_ml (fun b => if b = v then H.size else ad b) ls) := by rw [kk_oldl hv hls]; exact hl
  have fin := kk (fun b => if b = v then H.size else ad b) (fun w hw => (kk_old hv (hw.imp (fun z => by rw [hW.2.2.2.1 w z]; exact z) id)).trans (ha9 w hw)) hW' (kk_monl hm hls) ⟨Or.inl (by rw [jj_ts]; exact fun z => by cases z), kk_mons hm hst⟩ H1 locs la hl' (kk_V.new hV hv hW.2.2.2.2.1 (hF _ hS.1) o1 ?_) (jj_Snew hS z1 o1)
  · rw [List.map_cons, kk_oldm hv hst] at fin
    have e9 : jj_c (fun b => if b = v then H.size else ad b) (jR (some v)) = Value.ref H.size := by show va_rf (some (if v = v then H.size else ad v)) = _; rw [if_pos rfl]; rfl
    rw [e9] at fin
    exact fin
  · refine ⟨_, hc, ?_⟩
    show t_OB (if v = v then H.size else ad v) _ _ _ _ _
    rw [if_pos rfl]
    exact (u_born (jj_ty ci) hts (jj_in ci _ hc) hKn hkC e1 (jj_tok ci _ hc)).to fun j hj => by
      rw [jj_zs, jj_zs, jj_zs]
      have h9 := hd j hj
      revert h9
      cases jj_ty ci j <;> intro h9 <;> first | rfl | (exfalso; simp only [jj_kd] at h9; omega)
theorem kk_newa (hX : kk_ok X cc own nL fr lo mc ms) {at9 : ArrayType} (t j : Nat) {i : Int32} (v : Nat) (hv : τ v = none ∧ ¬ (1 ≤ v ∧ v ≤ 6)) (hF : jj_Fr X) (hdg : decode cc pc = .ok (.newarray at9, 2)) (ht : newarray.typeOf at9 = jj_aty t) (h3 : t < 3) (hw : Cond.arrayClass (jj_aty t) ∈ lw_all) (hi : i = nI j) (hj : j < 1000000) (hr : k + 1 ≤ mc ∧ n + j ≤ ms) (kk : kk_J X o Q (k + 1) (n + j) (pc + 2) ls (jR (some v) :: st) (jj_t τ v (.inr (t, j))) (jj_z I v 0) (jj_z L v 0) (jj_z r v none)) : kk_J X o Q k n pc ls (jI i :: st) τ I L r := by
  obtain ⟨⟨l, D, aC, ad0, A, sa⟩, p, e, R, s, m, args, below, meth, c⟩ := X
  intro ad ha9 hW hls hst H locs la hl hV hS
  have hX' := hX.1
  obtain ⟨hx, hb, -, hown, hts, hK, -, -, -, -, -, -, hRc, hRs⟩ := hX'
  have hcl : i.toNatClampNeg = j := by rw [hi]; exact nI_clamp (by omega)
  have h0 : ¬ i < 0 := by rw [hi]; exact nI_pos (by omega)
  have hbt : j * componentBytes (newarray.typeOf at9) ≤ 536870912 := by
    have : componentBytes (newarray.typeOf at9) ≤ 8 := by cases at9 <;> decide
    calc j * componentBytes (newarray.typeOf at9) ≤ 1000000 * 8 := Nat.mul_le_mul (by omega) this
      _ ≤ 536870912 := by decide
  refine va_newaK hx hb (by rw [ht]; exact hts _ hw) rfl hdg rfl h0 hcl hbt (by rw [hRc]; exact hr.1) (by rw [hRs]; exact hr.2) rfl fun H1 cA e1 z1 o1 hAr hNm => ?_
  rw [ht] at e1 hNm
  have hW' := hW.new hv (kk_lt hV hW (fun i hi => Nat.lt_of_lt_of_le (hX.2 i hi) hS.1)) (.inr (t, j))
  have hm : ∀ b, kk_r τ b → kk_r (jj_t τ v (.inr (t, j))) b := fun b => kk_mono
  have hl' : lv_has la c.maxLocals (jj_ml (fun b => if b = v then H.size else ad b) ls) := by rw [kk_oldl hv hls]; exact hl
  have fin := kk (fun b => if b = v then H.size else ad b) (fun w hw => (kk_old hv (hw.imp (fun z => by rw [hW.2.2.2.1 w z]; exact z) id)).trans (ha9 w hw)) hW' (kk_monl hm hls) ⟨Or.inl (by rw [jj_ts]; exact fun z => by cases z), kk_mons hm hst.2⟩ H1 locs la hl' (kk_V.new hV hv hW.2.2.2.2.1 (hF _ hS.1) o1 ?_) (jj_Snew hS z1 o1)
  · rw [List.map_cons, kk_oldm hv hst.2] at fin
    have e9 : jj_c (fun b => if b = v then H.size else ad b) (jR (some v)) = Value.ref H.size := by show va_rf (some (if v = v then H.size else ad v)) = _; rw [if_pos rfl]; rfl
    rw [e9] at fin
    exact fin
  · have hcA : cA = aC t := by
      have h9 := (hK.2 t (by omega)).2
      match t, h3, h9, hNm with
      | 0, _, h9, hNm => exact Option.some.inj (hNm.symm.trans h9)
      | 1, _, h9, hNm => exact Option.some.inj (hNm.symm.trans h9)
      | 2, _, h9, hNm => exact Option.some.inj (hNm.symm.trans h9)
    refine ⟨by show t < 6; omega, ?_⟩
    show H1[if v = v then H.size else ad v]? = _
    rw [if_pos rfl, e1, hcA]
    congr 2
    funext j
    rw [jj_zs, jj_zs, jj_zs]
    match t, h3 with
    | 0, _ => rfl
    | 1, _ => rfl
    | 2, _ => rfl
theorem kk_newq (hX : kk_ok X cc own nL fr lo mc ms) {idx : Nat} {E : String} (t j : Nat) {i : Int32} (v : Nat) (hv : τ v = none ∧ ¬ (1 ≤ v ∧ v ≤ 6)) (hF : jj_Fr X) (hdg : decode cc pc = .ok (.anewarray idx, 3)) (ht : jj_aty t = .object E) (h3 : 3 ≤ t ∧ t < 6) (hw : Cond.classLink own idx E ∈ lw_all) (ho : Cond.arrayOver (.object E) ∈ jj_tw) (hi : i = nI j) (hj : j < 1000000) (hr : k + 1 ≤ mc ∧ n + j ≤ ms) (kk : kk_J X o Q (k + 1) (n + j) (pc + 3) ls (jR (some v) :: st) (jj_t τ v (.inr (t, j))) (jj_z I v 0) (jj_z L v 0) (jj_z r v none)) : kk_J X o Q k n pc ls (jI i :: st) τ I L r := by
  obtain ⟨⟨l, D, aC, ad0, A, sa⟩, p, e, R, s, m, args, below, meth, c⟩ := X
  intro ad ha9 hW hls hst H locs la hl hV hS
  have hX' := hX.1
  obtain ⟨hx, hb, -, hown, hts, hK, hTw, -, -, -, -, -, hRc, hRs⟩ := hX'
  have hcl : i.toNatClampNeg = j := by rw [hi]; exact nI_clamp (by omega)
  have h0 : ¬ i < 0 := by rw [hi]; exact nI_pos (by omega)
  refine W.anew hx hb hown (hts _ hw) (va_AO.use (hTw _ ho)) rfl hdg rfl h0 (by omega) (by rw [hRc]; exact hr.1) (by rw [hRs, hcl]; exact hr.2) fun cA kA comp f1 f2 f3 f4 => ?_
  rw [hcl]
  generalize hH1 : H.push ({ cls := cA, slots := Array.replicate j .null, vm := .none } : Cell) = H1
  have z1 : H1.size = H.size + 1 := by rw [← hH1, Array.size_push]
  have e1 : H1[H.size]? = some (arrV cA j (fun _ => .null)) := by rw [← hH1, Array.getElem?_push_size, ← arrV_new]
  have o1 : ∀ q : Nat, q < H.size → H1[q]? = H[q]? := fun q hq => by rw [← hH1, Array.getElem?_push, if_neg (Nat.ne_of_lt hq)]
  have hW' := hW.new hv (kk_lt hV hW (fun i hi => Nat.lt_of_lt_of_le (hX.2 i hi) hS.1)) (.inr (t, j))
  have hm : ∀ b, kk_r τ b → kk_r (jj_t τ v (.inr (t, j))) b := fun b => kk_mono
  have hl' : lv_has la c.maxLocals (jj_ml (fun b => if b = v then H.size else ad b) ls) := by rw [kk_oldl hv hls]; exact hl
  have fin := kk (fun b => if b = v then H.size else ad b) (fun w hw => (kk_old hv (hw.imp (fun z => by rw [hW.2.2.2.1 w z]; exact z) id)).trans (ha9 w hw)) hW' (kk_monl hm hls) ⟨Or.inl (by rw [jj_ts]; exact fun z => by cases z), kk_mons hm hst.2⟩ H1 locs la hl' (kk_V.new hV hv hW.2.2.2.2.1 (hF _ hS.1) o1 ?_) (jj_Snew hS z1 o1)
  · rw [List.map_cons, kk_oldm hv hst.2] at fin
    have e9 : jj_c (fun b => if b = v then H.size else ad b) (jR (some v)) = Value.ref H.size := by show va_rf (some (if v = v then H.size else ad v)) = _; rw [if_pos rfl]; rfl
    rw [e9] at fin
    exact fin
  · have hcA : cA = aC t := by
      have h9 := (hK.2 t h3.2).2
      rw [ht] at h9
      obtain ⟨-, -, -, -, -, h9⟩ := h9
      exact Option.some.inj (f1.symm.trans h9)
    refine ⟨h3.2, ?_⟩
    show H1[if v = v then H.size else ad v]? = _
    rw [if_pos rfl, e1, hcA]
    congr 2
    funext j
    rw [jj_zs, jj_zs, jj_zs]
    match t, h3 with
    | 0, h => omega
    | 1, h => omega
    | 2, h => omega
    | t + 3, _ => rfl

/-- an id that is left -/
theorem kk_free (M : Nat) (kk : ∀ v, M ≤ v → 7 ≤ v → (∀ w, v ≤ w → τ w = none) → kk_J X o Q k n pc ls st τ I L r) : kk_J X o Q k n pc ls st τ I L r := by
  intro ad ha9 hW
  obtain ⟨N, hN⟩ := hW.2.2.2.2.2
  exact kk (max (max M 7) N) (by omega) (by omega) (fun w hw => hN w (by omega)) ad ha9 hW
theorem kx_inc {x : Int32} {a : Nat} (hx : x = nI a) : x + Int32.ofInt 1 = nI (a + 1) := by subst hx; exact nI_1 a
theorem kk_lss (l1 : List (Nat × jj_v)) (h : jj_sub l1 ls) (kk : kk_J X o Q k n pc l1 st τ I L r) : kk_J X o Q k n pc ls st τ I L r := by
  obtain ⟨⟨l, D, aC, ad0, A, sa⟩, p, e, R, s, m, args, below, meth, c⟩ := X
  intro ad ha9 hW hls hst
  exact jj_ls (X := ((l, D, aC, ad, A, sa), p, e, R, s, m, args, below, meth, c)) l1 h (kk ad ha9 hW (kk_subl hls h) hst)
end KN

