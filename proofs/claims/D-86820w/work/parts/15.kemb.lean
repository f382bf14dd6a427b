set_option maxRecDepth 100000
theorem kk_impM {l : Launch} {x : MethodName} {S : Jvm.Spec} {P P' : Array Value → State → Prop} {Q Q' : Array Value → State → Outcome → State → Prop} (h : MetFree l x S P (fun _ _ _ _ _ => True) Q) (hp : ∀ a s, P' a s → P a s) (hq : ∀ a s o s', P' a s → Q a s o s' → Q' a s o s') : MetFree l x S P' (fun _ _ _ _ _ => True) Q' := by
  intro p e ha hc hk s m args below hf happ hP hK
  obtain ⟨n, o, h1, h2, h3, h4⟩ := h p e ha hc hk s m args below hf happ (hp _ _ hP) hK
  exact ⟨n, o, h1, h2, h3, hq _ _ _ _ hP h4⟩
/-- numbers alone -/
def kk_n (v : jj_v) : Prop := ∀ ad ad' : Nat → Nat, jj_c ad v = jj_c ad' v
theorem kk_nI {x : Int32} : kk_n (jI x) := fun _ _ => rfl
theorem kk_nL {x : Int64} : kk_n (jL x) := fun _ _ => rfl
def kk_ns : List jj_v → Prop
  | [] => True
  | v :: t => kk_n v ∧ kk_ns t
theorem kk_nsm {ad ad' : Nat → Nat} : ∀ {As : List jj_v}, kk_ns As → As.map (jj_c ad) = As.map (jj_c ad') := by
  intro As
  induction As with
  | nil => intro _; rfl
  | cons u t ih => intro h; rw [List.map_cons, List.map_cons, h.1 ad ad', ih h.2]
def kk_m {α : Type} (B N : Nat) (F : Nat → Nat → α) (S : Nat → Nat → α) : Nat → Nat → α := fun b j => if B ≤ b ∧ b < B + N then S (b - B) j else F b j
theorem kk_m_in {α : Type} {B N : Nat} {F S : Nat → Nat → α} {k j : Nat} (h : k < N) : kk_m B N F S (B + k) j = S k j := by
  unfold kk_m
  rw [if_pos ⟨by omega, by omega⟩, show B + k - B = k by omega]
theorem kk_m_out {α : Type} {B N : Nat} {F S : Nat → Nat → α} {b : Nat} (h : ¬ (B ≤ b ∧ b < B + N)) : kk_m B N F S b = F b := by
  funext j
  unfold kk_m
  rw [if_neg h]
theorem va_Z.mono {C n d : String} {v : Value} {A A' : Nat → Prop} {U : State} {H : Heap} (h : va_Z C n d v A U H) (hA : ∀ q, A' q → A q) : va_Z C n d v A' U H := by
  obtain ⟨cf, kf, fi, f, a, cell, h1, h2, h3, h4, h5, h6, h7, h8⟩ := h
  exact ⟨cf, kf, fi, f, a, cell, h1, h2, h3, h4, h5, h6, h7, fun q => h8 (hA _ q)⟩
theorem jj_S.mono {sa : Nat → Nat} {A A' : Nat → Prop} {U : State} {H : Heap} (h : jj_S sa A U H) (hA : ∀ q, A' q → A q) : jj_S sa A' U H :=
  ⟨h.1.mono hA, h.2.1.mono hA, h.2.2.1.mono hA, h.2.2.2.1.mono hA, h.2.2.2.2.1.mono hA, h.2.2.2.2.2.1.mono hA, h.2.2.2.2.2.2⟩
theorem jj_at.re {D : va_G} {aC : Nat → ClassId} {ad ad' : Nat → Nat} {I I' : jj_I} {L L' : jj_L} {r r' : jj_R} {a a' : Nat} {t : Nat ⊕ (Nat × Nat)} {H H' : Heap} (h : jj_at D aC ad I L r a t H) (ha : ad' a' = ad a) (hH : H'[ad a]? = H[ad a]?) (hI : ∀ j, I' a' j = I a j) (hL : ∀ j, L' a' j = L a j) (hr : ∀ j, (r' a' j).map ad' = (r a j).map ad) : jj_at D aC ad' I' L' r' a' t H' := by
  have hfv : ∀ d j, jj_fv d ad (I a j) (L a j) (r a j) = jj_fv d ad' (I' a' j) (L' a' j) (r' a' j) := fun d j => by
    match d with
    | 0 => show Value.int _ = Value.int _; rw [hI]
    | 1 => show Value.long _ = Value.long _; rw [hL]
    | d + 2 => show va_rf _ = va_rf _; rw [hr]
  cases t with
  | inl ci =>
    obtain ⟨q, h3, h4⟩ := h
    refine ⟨q, h3, ?_⟩
    rw [ha]
    exact (h4.kept hH).to fun j _ => hfv _ j
  | inr tn =>
    obtain ⟨h3, h4⟩ := h
    refine ⟨h3, ?_⟩
    rw [ha, hH, h4]
    congr 2
    funext j
    exact hfv _ j
theorem kk_emb {y : MethodName} {ws : List Cond} {rm : Room} {As : List jj_v} {B N : Nat} {T0 : jj_T} {R0 : jj_R} {I0 I1 : jj_I} {L0 L1 : jj_L} {v : Option jj_v} (hM : ∀ G, jj_M G y ws rm (jR (some 0) :: As) false T0 I0 L0 R0 (jj_eq v T0 I1 L1 R0) jj_no) (hAs : kk_ns As) (hv : kk_ns v.toList) (hB : 7 ≤ B) (h3 : ∀ k t, T0 k = some t → t ≠ .inr (3, 0)) (hN : ∀ k, N ≤ k → T0 k = none)
    {τ : jj_T} {I : jj_I} {L : jj_L} {r : jj_R} (hτ : ∀ k, k < N → τ (B + k) = T0 k) (hI : ∀ k, k < N → ∀ j, I (B + k) j = I0 k j) (hL : ∀ k, k < N → ∀ j, L (B + k) j = L0 k j) (hr : ∀ k, k < N → ∀ j, r (B + k) j = (R0 k j).map (B + ·)) (G : jj_G) :
    kk_M G y ws rm (jR (some B) :: As) false τ I L r (jj_eq v τ (kk_m B N I I1) (kk_m B N L L1) r) jj_no := by
  obtain ⟨l, D, aC, ad0, A, sa⟩ := G
  intro ad hW hAs9
  have hlt : ∀ k, T0 k ≠ none → k < N := fun k hk => by
    rcases Nat.lt_or_ge k N with q | q
    · exact q
    · exact absurd (hN k q) hk
  have hne : ∀ k, T0 k ≠ none → τ (B + k) ≠ none := fun k hk => by rw [hτ k (hlt k hk)]; exact hk
  let A' : Nat → Prop := fun x => ∃ k, T0 k ≠ none ∧ x = ad (B + k)
  let ad' : Nat → Nat := fun k => ad (B + k)
  have hmap : ∀ k, k < N → ∀ j, (R0 k j).map ad' = (r (B + k) j).map ad := fun k hk j => by
    rw [hr k hk j, Option.map_map]; rfl
  refine kk_impM (hM (l, D, aC, ad', A', sa)) (fun a U hP => ?_) (fun a U oc t hP hQ => ?_)
  · obtain ⟨ha, ⟨⟨hV, hK, hTw, hFw, hSt⟩, -, hsz⟩⟩ := hP
    refine ⟨?_, ⟨⟨fun k tk hk => ?_, fun a b ha hb hab => ?_, fun a ta hta _ => ⟨a, (by rw [hta]; exact fun z => (by cases z)), rfl⟩⟩, hK, hTw, hFw, hSt.mono fun q hq => ?_⟩, fun h => by cases h⟩
    · rw [ha, List.map_cons, List.map_cons, kk_nsm (ad' := ad') hAs]; rfl
    · have hkn : T0 k ≠ none := by rw [hk]; exact fun z => by cases z
      have hkN := hlt k hkn
      exact (hV.1 (B + k) tk (by rw [hτ k hkN]; exact hk)).re rfl rfl (fun j => (hI k hkN j).symm) (fun j => (hL k hkN j).symm) (hmap k hkN)
    · have := hW.2.2.1 (B + a) (B + b) (Or.inl (hne a ha)) (Or.inl (hne b hb)) hab
      omega
    · obtain ⟨k, hk, rfl⟩ := hq
      cases hq : T0 k with
      | none => exact absurd hq hk
      | some tk => exact hV.2.2 (B + k) tk (by rw [hτ k (hlt k hk)]; exact hq) (h3 k tk hq)
  · obtain ⟨ha, ⟨⟨hV, hK, hTw, hFw, hSt⟩, -, hsz⟩⟩ := hP
    have hAA : ∀ q, A' q → A q := fun q hq => by
      obtain ⟨k, hk, rfl⟩ := hq
      cases hq : T0 k with
      | none => exact absurd hq hk
      | some tk => exact hV.2.2 (B + k) tk (by rw [hτ k (hlt k hk)]; exact hq) (h3 k tk hq)
    rcases hQ with ⟨⟨v', τ', I', L', r', hv', ⟨rfl, rfl, rfl, rfl, rfl⟩, ⟨hV2, hK2, hTw2, hFw2, hSt2⟩, hF⟩, Lc, hFE, hfree⟩ | ⟨q, -, E, ce, Lc, ⟨-, a, τ', I', L', r', -, -, hno, -⟩, -⟩
    · refine Or.inl ⟨⟨ad, fun _ _ => rfl, v', τ, kk_m B N I I', kk_m B N L L', r, ?_, ⟨⟨rfl, rfl, rfl, rfl, rfl⟩, hW, ?_⟩, ⟨⟨fun b tb hb => ?_, hV.2.1, hV.2.2⟩, hK2, hTw2, hFw2, ?_⟩, ?_⟩, Lc, hFE, fun q hq => hAA _ (hfree q hq)⟩
      · rw [hv']
        cases v' with
        | none => rfl
        | some u => exact congrArg (fun z => Outcome.returned (some z)) (hv.1 _ _)
      · cases v' with
        | none => trivial
        | some u =>
          refine ⟨?_, trivial⟩
          rcases u with x | x | x
          · trivial
          · trivial
          · cases x with
            | none => trivial
            | some b =>
              have h9 := hv.1 (fun _ => 0) (fun _ => 1)
              exact absurd h9 (fun z => by cases z)
      · by_cases hbi : B ≤ b ∧ b < B + N
        · obtain ⟨k, rfl⟩ : ∃ k, b = B + k := ⟨b - B, by omega⟩
          have hkN : k < N := by omega
          rw [hτ k hkN] at hb
          exact (hV2.1 k tb hb).re rfl rfl (fun j => kk_m_in hkN) (fun j => kk_m_in hkN) (fun j => (hmap k hkN j).symm)
        · have hlt2 : ad b < U.heap.size := (hV.1 b tb hb).lt
          refine (hV.1 b tb hb).re rfl (hF.2 (ad b) hlt2 ?_) (fun j => by rw [kk_m_out hbi]) (fun j => by rw [kk_m_out hbi]) (fun j => rfl)
          rintro ⟨k, hk, he⟩
          have := hW.2.2.1 b (B + k) (Or.inl (by rw [hb]; exact fun z => by cases z)) (Or.inl (hne k hk)) he
          have := hlt k hk
          omega
      · exact (hSt.kept fun q hq hnA => hF.2 q hq (fun z => hnA (hAA q z))).moved hFE.2.1.alike
      · exact ⟨hF.1, fun q hq hnA => hF.2 q hq (fun z => hnA (hAA q z))⟩
    · exact hno.elim
