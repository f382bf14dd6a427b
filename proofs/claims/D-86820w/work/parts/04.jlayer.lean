set_option maxRecDepth 100000
/-! ===== classes of ours: numbers, fields ===== -/
def jj_cl : List vw_C := [(RX0, TX0, 10), (RX1, fun _ => ("", "", "", false), 0), (RX2, TX2, 3), (RX3, TX3, 3), (RX4, TX4, 3), (RX5, TX5, 3), (RX6, TX6, 3), (RX7, fun _ => ("", "", "", false), 0), (RX8, TX8, 4), (RX9, TX9, 4), (RX10, TX10, 4), (RX11, TX11, 4), (RX12, TX12, 4), (RX13, TX13, 4), (RX14, TX14, 4), (RX15, TX15, 3), (RX16, TX16, 3), (RX17, TX17, 3), (RX18, TX18, 3), (RX19, TX19, 3), (RX20, TX20, 3), (RX21, TX21, 3), (RX22, TX22, 3), (RX23, TX23, 3), (RX24, TX24, 3), (RX25, TX25, 41), (RX26, TX26, 3), (RX27, TX27, 4), (RX28, TX28, 9), (RX29, TX29, 20), (RX30, TX30, 2), (RX31, TX31, 3), (RX32, TX32, 7), (RJ2, TJ2, 3), (RJ12, TJ12, 4)]
def jj_ty (ci k : Nat) : FieldType := match ci with
  | 0 => tyX0 k
  | 2 => tyX2 k
  | 3 => tyX3 k
  | 4 => tyX4 k
  | 5 => tyX5 k
  | 6 => tyX6 k
  | 8 => tyX8 k
  | 9 => tyX9 k
  | 10 => tyX10 k
  | 11 => tyX11 k
  | 12 => tyX12 k
  | 13 => tyX13 k
  | 14 => tyX14 k
  | 15 => tyX15 k
  | 16 => tyX16 k
  | 17 => tyX17 k
  | 18 => tyX18 k
  | 19 => tyX19 k
  | 20 => tyX20 k
  | 21 => tyX21 k
  | 22 => tyX22 k
  | 23 => tyX23 k
  | 24 => tyX24 k
  | 25 => tyX25 k
  | 26 => tyX26 k
  | 27 => tyX27 k
  | 28 => tyX28 k
  | 29 => tyX29 k
  | 30 => tyX30 k
  | 31 => tyX31 k
  | 32 => tyX32 k
  | 33 => tyJ2 k
  | 34 => tyJ12 k
  | _ => .int
theorem jj_in : ∀ (ci : Nat) (q : vw_C), jj_cl[ci]? = some q → ∀ w ∈ u_ws q.1 q.2.1 q.2.2, w ∈ lw_all := by
  intro ci q hq
  match ci, hq with
  | 0, hq => cases hq; exact in_X0
  | 1, hq => cases hq; intro w hw; simp [u_ws] at hw
  | 2, hq => cases hq; exact in_X2
  | 3, hq => cases hq; exact in_X3
  | 4, hq => cases hq; exact in_X4
  | 5, hq => cases hq; exact in_X5
  | 6, hq => cases hq; exact in_X6
  | 7, hq => cases hq; intro w hw; simp [u_ws] at hw
  | 8, hq => cases hq; exact in_X8
  | 9, hq => cases hq; exact in_X9
  | 10, hq => cases hq; exact in_X10
  | 11, hq => cases hq; exact in_X11
  | 12, hq => cases hq; exact in_X12
  | 13, hq => cases hq; exact in_X13
  | 14, hq => cases hq; exact in_X14
  | 15, hq => cases hq; exact in_X15
  | 16, hq => cases hq; exact in_X16
  | 17, hq => cases hq; exact in_X17
  | 18, hq => cases hq; exact in_X18
  | 19, hq => cases hq; exact in_X19
  | 20, hq => cases hq; exact in_X20
  | 21, hq => cases hq; exact in_X21
  | 22, hq => cases hq; exact in_X22
  | 23, hq => cases hq; exact in_X23
  | 24, hq => cases hq; exact in_X24
  | 25, hq => cases hq; exact in_X25
  | 26, hq => cases hq; exact in_X26
  | 27, hq => cases hq; exact in_X27
  | 28, hq => cases hq; exact in_X28
  | 29, hq => cases hq; exact in_X29
  | 30, hq => cases hq; exact in_X30
  | 31, hq => cases hq; exact in_X31
  | 32, hq => cases hq; exact in_X32
  | 33, hq => cases hq; exact in_J2
  | 34, hq => cases hq; exact in_J12
  | ci + 35, hq => simp [jj_cl] at hq
theorem jj_tok : ∀ (ci : Nat) (q : vw_C), jj_cl[ci]? = some q → ∀ k, k < q.2.2 → parseFieldDescriptor (q.2.1 k).2.2.1 = some (jj_ty ci k) := by
  intro ci q hq
  match ci, hq with
  | 0, hq => cases hq; exact tyX0_ok
  | 1, hq => cases hq; intro k hk; exact absurd hk (Nat.not_lt_zero k)
  | 2, hq => cases hq; exact tyX2_ok
  | 3, hq => cases hq; exact tyX3_ok
  | 4, hq => cases hq; exact tyX4_ok
  | 5, hq => cases hq; exact tyX5_ok
  | 6, hq => cases hq; exact tyX6_ok
  | 7, hq => cases hq; intro k hk; exact absurd hk (Nat.not_lt_zero k)
  | 8, hq => cases hq; exact tyX8_ok
  | 9, hq => cases hq; exact tyX9_ok
  | 10, hq => cases hq; exact tyX10_ok
  | 11, hq => cases hq; exact tyX11_ok
  | 12, hq => cases hq; exact tyX12_ok
  | 13, hq => cases hq; exact tyX13_ok
  | 14, hq => cases hq; exact tyX14_ok
  | 15, hq => cases hq; exact tyX15_ok
  | 16, hq => cases hq; exact tyX16_ok
  | 17, hq => cases hq; exact tyX17_ok
  | 18, hq => cases hq; exact tyX18_ok
  | 19, hq => cases hq; exact tyX19_ok
  | 20, hq => cases hq; exact tyX20_ok
  | 21, hq => cases hq; exact tyX21_ok
  | 22, hq => cases hq; exact tyX22_ok
  | 23, hq => cases hq; exact tyX23_ok
  | 24, hq => cases hq; exact tyX24_ok
  | 25, hq => cases hq; exact tyX25_ok
  | 26, hq => cases hq; exact tyX26_ok
  | 27, hq => cases hq; exact tyX27_ok
  | 28, hq => cases hq; exact tyX28_ok
  | 29, hq => cases hq; exact tyX29_ok
  | 30, hq => cases hq; exact tyX30_ok
  | 31, hq => cases hq; exact tyX31_ok
  | 32, hq => cases hq; exact tyX32_ok
  | 33, hq => cases hq; exact tyJ2_ok
  | 34, hq => cases hq; exact tyJ12_ok
  | ci + 35, hq => simp [jj_cl] at hq
theorem jj_nm : ∀ (ci : Nat) (q : vw_C), jj_cl[ci]? = some q → ∀ a, a < q.2.2 → ∀ b, b < q.2.2 → a ≠ b → (q.2.1 a).2.1 ≠ (q.2.1 b).2.1 ∨ ((q.2.1 a).1 ≠ (q.2.1 b).1 ∧ (q.2.1 a).2.2.2 = true ∧ (q.2.1 b).2.2.2 = true) := by
  intro ci q hq
  match ci, hq with
  | 0, hq => cases hq; decide +kernel
  | 1, hq => cases hq; decide +kernel
  | 2, hq => cases hq; decide +kernel
  | 3, hq => cases hq; decide +kernel
  | 4, hq => cases hq; decide +kernel
  | 5, hq => cases hq; decide +kernel
  | 6, hq => cases hq; decide +kernel
  | 7, hq => cases hq; decide +kernel
  | 8, hq => cases hq; decide +kernel
  | 9, hq => cases hq; decide +kernel
  | 10, hq => cases hq; decide +kernel
  | 11, hq => cases hq; decide +kernel
  | 12, hq => cases hq; decide +kernel
  | 13, hq => cases hq; decide +kernel
  | 14, hq => cases hq; decide +kernel
  | 15, hq => cases hq; decide +kernel
  | 16, hq => cases hq; decide +kernel
  | 17, hq => cases hq; decide +kernel
  | 18, hq => cases hq; decide +kernel
  | 19, hq => cases hq; decide +kernel
  | 20, hq => cases hq; decide +kernel
  | 21, hq => cases hq; decide +kernel
  | 22, hq => cases hq; decide +kernel
  | 23, hq => cases hq; decide +kernel
  | 24, hq => cases hq; decide +kernel
  | 25, hq => cases hq; decide +kernel
  | 26, hq => cases hq; decide +kernel
  | 27, hq => cases hq; decide +kernel
  | 28, hq => cases hq; decide +kernel
  | 29, hq => cases hq; decide +kernel
  | 30, hq => cases hq; decide +kernel
  | 31, hq => cases hq; decide +kernel
  | 32, hq => cases hq; decide +kernel
  | 33, hq => cases hq; decide +kernel
  | 34, hq => cases hq; decide +kernel
  | ci + 35, hq => simp [jj_cl] at hq
theorem jc_0 : jj_cl[0]? = some (RX0, TX0, 10) := rfl
theorem jc_1 : jj_cl[1]? = some (RX1, fun _ => ("", "", "", false), 0) := rfl
theorem jc_2 : jj_cl[2]? = some (RX2, TX2, 3) := rfl
theorem jc_3 : jj_cl[3]? = some (RX3, TX3, 3) := rfl
theorem jc_4 : jj_cl[4]? = some (RX4, TX4, 3) := rfl
theorem jc_5 : jj_cl[5]? = some (RX5, TX5, 3) := rfl
theorem jc_6 : jj_cl[6]? = some (RX6, TX6, 3) := rfl
theorem jc_7 : jj_cl[7]? = some (RX7, fun _ => ("", "", "", false), 0) := rfl
theorem jc_8 : jj_cl[8]? = some (RX8, TX8, 4) := rfl
theorem jc_9 : jj_cl[9]? = some (RX9, TX9, 4) := rfl
theorem jc_10 : jj_cl[10]? = some (RX10, TX10, 4) := rfl
theorem jc_11 : jj_cl[11]? = some (RX11, TX11, 4) := rfl
theorem jc_12 : jj_cl[12]? = some (RX12, TX12, 4) := rfl
theorem jc_13 : jj_cl[13]? = some (RX13, TX13, 4) := rfl
theorem jc_14 : jj_cl[14]? = some (RX14, TX14, 4) := rfl
theorem jc_15 : jj_cl[15]? = some (RX15, TX15, 3) := rfl
theorem jc_16 : jj_cl[16]? = some (RX16, TX16, 3) := rfl
theorem jc_17 : jj_cl[17]? = some (RX17, TX17, 3) := rfl
theorem jc_18 : jj_cl[18]? = some (RX18, TX18, 3) := rfl
theorem jc_19 : jj_cl[19]? = some (RX19, TX19, 3) := rfl
theorem jc_20 : jj_cl[20]? = some (RX20, TX20, 3) := rfl
theorem jc_21 : jj_cl[21]? = some (RX21, TX21, 3) := rfl
theorem jc_22 : jj_cl[22]? = some (RX22, TX22, 3) := rfl
theorem jc_23 : jj_cl[23]? = some (RX23, TX23, 3) := rfl
theorem jc_24 : jj_cl[24]? = some (RX24, TX24, 3) := rfl
theorem jc_25 : jj_cl[25]? = some (RX25, TX25, 41) := rfl
theorem jc_26 : jj_cl[26]? = some (RX26, TX26, 3) := rfl
theorem jc_27 : jj_cl[27]? = some (RX27, TX27, 4) := rfl
theorem jc_28 : jj_cl[28]? = some (RX28, TX28, 9) := rfl
theorem jc_29 : jj_cl[29]? = some (RX29, TX29, 20) := rfl
theorem jc_30 : jj_cl[30]? = some (RX30, TX30, 2) := rfl
theorem jc_31 : jj_cl[31]? = some (RX31, TX31, 3) := rfl
theorem jc_32 : jj_cl[32]? = some (RX32, TX32, 7) := rfl
theorem jc_33 : jj_cl[33]? = some (RJ2, TJ2, 3) := rfl
theorem jc_34 : jj_cl[34]? = some (RJ12, TJ12, 4) := rfl

/-! ===== the abstract memory and frame ===== -/
abbrev jj_E : Type := Option (Nat ⊕ (Nat × Nat))
abbrev jj_T : Type := Nat → jj_E
abbrev jj_I : Type := Nat → Nat → Int32
abbrev jj_L : Type := Nat → Nat → Int64
abbrev jj_R : Type := Nat → Nat → Option Nat
abbrev jj_v : Type := Int32 ⊕ (Int64 ⊕ Option Nat)
abbrev jI (x : Int32) : jj_v := .inl x
abbrev jL (x : Int64) : jj_v := .inr (.inl x)
abbrev jR (x : Option Nat) : jj_v := .inr (.inr x)
/-- the launch, the classes' numbers, the arrays' classes, where a thing lies, what may be written, the statics -/
abbrev jj_G : Type := Launch × va_G × (Nat → ClassId) × (Nat → Nat) × (Nat → Prop) × (Nat → Nat)
abbrev jj_X : Type := jj_G × Program × Env × Room × State × MethodId × Array Value × List Frame × Method × Code
def jj_c (ad : Nat → Nat) (v : jj_v) : Value := match v with
  | .inl x => .int x
  | .inr (.inl x) => .long x
  | .inr (.inr r) => va_rf (r.map ad)
def jj_w2 (v : jj_v) : Bool := match v with
  | .inl _ => false
  | .inr (.inl _) => true
  | .inr (.inr _) => false
def jj_kd (t : FieldType) : Nat := match t with
  | .long => 1
  | .object _ => 2
  | .array _ => 2
  | .float => 3
  | .double => 3
  | _ => 0
def jj_fv (d : Nat) (ad : Nat → Nat) (i : Int32) (l : Int64) (r : Option Nat) : Value := match d with
  | 0 => .int i
  | 1 => .long l
  | _ => va_rf (r.map ad)
def jj_ak (t : Nat) : Nat := match t with
  | 0 => 0
  | 1 => 0
  | 2 => 1
  | _ => 2
def jj_aty (t : Nat) : FieldType := match t with
  | 0 => .int
  | 1 => .boolean
  | 2 => .long
  | 3 => .object "java/lang/Object"
  | 4 => .object "BranchCells$Task"
  | _ => .object "BranchCells$Doer"
def jj_u {α : Type} (F : Nat → Nat → α) (a k : Nat) (v : α) : Nat → Nat → α := fun b j => if b = a ∧ j = k then v else F b j
def jj_z {α : Type} (F : Nat → Nat → α) (a : Nat) (v : α) : Nat → Nat → α := fun b j => if b = a then v else F b j
def jj_t (τ : jj_T) (a : Nat) (e : Nat ⊕ (Nat × Nat)) : jj_T := fun b => if b = a then some e else τ b
theorem jj_us {α : Type} {F : Nat → Nat → α} {a k : Nat} {v : α} : jj_u F a k v a k = v := if_pos ⟨rfl, rfl⟩
theorem jj_un {α : Type} {F : Nat → Nat → α} {a k : Nat} {v : α} {b j : Nat} (h : b ≠ a ∨ j ≠ k) : jj_u F a k v b j = F b j := if_neg fun q => h.elim (fun z => z q.1) (fun z => z q.2)
theorem jj_ua {α : Type} {F : Nat → Nat → α} {a k : Nat} {v : α} {b : Nat} (h : b ≠ a) : jj_u F a k v b = F b := funext fun _ => jj_un (Or.inl h)
theorem jj_zn {α : Type} {F : Nat → Nat → α} {a : Nat} {v : α} {b : Nat} (h : b ≠ a) : jj_z F a v b = F b := funext fun _ => if_neg h
theorem jj_zs {α : Type} {F : Nat → Nat → α} {a : Nat} {v : α} {j : Nat} : jj_z F a v a j = v := if_pos rfl
theorem jj_ts {τ : jj_T} {a : Nat} {e : Nat ⊕ (Nat × Nat)} : jj_t τ a e a = some e := if_pos rfl
theorem jj_tn {τ : jj_T} {a : Nat} {e : Nat ⊕ (Nat × Nat)} {b : Nat} (h : b ≠ a) : jj_t τ a e b = τ b := if_neg h
def jj_at (D : va_G) (aC : Nat → ClassId) (ad : Nat → Nat) (I : jj_I) (L : jj_L) (r : jj_R) (a : Nat) (t : Nat ⊕ (Nat × Nat)) (H : Heap) : Prop := match t with
  | .inl ci => ∃ q : vw_C, jj_cl[ci]? = some q ∧ t_OB (ad a) (D.1 ci) q.2.2 (D.2 ci) H (fun k => jj_fv (jj_kd (jj_ty ci k)) ad (I a k) (L a k) (r a k))
  | .inr tn => tn.1 < 6 ∧ H[ad a]? = some (arrV (aC tn.1) tn.2 (fun k => jj_fv (jj_ak tn.1) ad (I a k) (L a k) (r a k)))
/-- the heap holds the memory -/
def jj_V (D : va_G) (aC : Nat → ClassId) (ad : Nat → Nat) (A : Nat → Prop) (τ : jj_T) (I : jj_I) (L : jj_L) (r : jj_R) (H : Heap) : Prop :=
  (∀ a t, τ a = some t → jj_at D aC ad I L r a t H) ∧ (∀ a b, τ a ≠ none → τ b ≠ none → ad a = ad b → a = b) ∧ ∀ a t, τ a = some t → t ≠ .inr (3, 0) → A (ad a)
def jj_K (D : va_G) (aC : Nat → ClassId) (U : State) : Prop := (∀ (c : Nat) (q : vw_C), jj_cl[c]? = some q → u_Kn U q.1 q.2.1 q.2.2 (D.1 c) (D.2 c)) ∧ ∀ t, t < 6 → ArrOfT U (aC t) (jj_aty t) ∧ va_RA U (aC t) (jj_aty t)
/-- words that no list of steady words carries -/
def jj_tok2 (w : Cond) : Bool := match w with
  | .fieldLinkNest .. => true
  | .methodLinkNest .. => true
  | .castable .. => true
  | .declares _ => true
  | .arrayOver (.object _) => true
  | _ => false
def jj_tw : List Cond := lw_tbl.filter jj_tok2
theorem jj_inT {w : Cond} (h : w ∈ lw_tbl) (g : jj_tok2 w = true) : w ∈ jj_tw := List.mem_filter.mpr ⟨h, g⟩
def jj_Tw (U : State) : Prop := ∀ w ∈ jj_tw, va_Nw w U
def jj_fl : List (String × MethodName × MethodName) := [
  ("java/util/ArrayList", ⟨"java/util/List", "size", "()I"⟩, yJ2_size),
  ("java/util/ArrayList", ⟨"java/util/List", "add", "(Ljava/lang/Object;)Z"⟩, yJ2_add),
  ("java/util/ArrayList", ⟨"java/util/List", "get", "(I)Ljava/lang/Object;"⟩, yJ2_get),
  ("java/util/ArrayList", ⟨"java/util/List", "isEmpty", "()Z"⟩, yJ2_isEmpty),
  ("java/util/ArrayList", ⟨"java/util/List", "clear", "()V"⟩, yJ2_clear),
  ("java/util/ArrayList", ⟨"java/util/List", "remove", "(Ljava/lang/Object;)Z"⟩, yJ2_remove),
  ("java/util/ArrayList", ⟨"java/util/List", "iterator", "()Ljava/util/Iterator;"⟩, yJ2_iterator),
  ("java/util/ArrayList$Itr", ⟨"java/util/Iterator", "hasNext", "()Z"⟩, yJ12_hasNext),
  ("java/util/ArrayList$Itr", ⟨"java/util/Iterator", "next", "()Ljava/lang/Object;"⟩, yJ12_next)]
theorem jj_flx : ∀ q ∈ jj_fl, q.2.1.cls ≠ "java/lang/invoke/MethodHandle" ∧ q.2.1.cls ≠ "java/lang/invoke/VarHandle" := by decide +kernel
def jj_Fw (U : State) : Prop := ∀ q ∈ jj_fl, va_Fw q.1 q.2.1 q.2.2 U
/-- the statics, which nobody writes -/
def jj_S (sa : Nat → Nat) (A : Nat → Prop) (U : State) (H : Heap) : Prop :=
  va_Z "java/util/ArrayList" "DEFAULTCAPACITY_EMPTY_ELEMENTDATA" "[Ljava/lang/Object;" (.ref (sa 0)) A U H ∧ va_Z "BranchCells$State" "RUNS" "LBranchCells$State;" (.ref (sa 1)) A U H ∧ va_Z "BranchCells$State" "ENDED" "LBranchCells$State;" (.ref (sa 2)) A U H ∧ va_Z "BranchCells$State" "FAILED" "LBranchCells$State;" (.ref (sa 3)) A U H ∧ va_Z "java/lang/Throwable" "UNASSIGNED_STACK" "[Ljava/lang/StackTraceElement;" (.ref (sa 5)) A U H ∧ va_Z "java/lang/Throwable" "SUPPRESSED_SENTINEL" "Ljava/util/List;" (.ref (sa 6)) A U H ∧ va_Mi "[Ljava/lang/Object;" (sa 4) U
theorem jj_S.moved {sa : Nat → Nat} {A : Nat → Prop} {u U : State} {H : Heap} (hvm : u.vm.Alike U.vm) (h : jj_S sa A u H) : jj_S sa A U H := ⟨h.1.moved hvm, h.2.1.moved hvm, h.2.2.1.moved hvm, h.2.2.2.1.moved hvm, h.2.2.2.2.1.moved hvm, h.2.2.2.2.2.1.moved hvm, va_Mi.moved hvm h.2.2.2.2.2.2⟩
theorem jj_S.kept {sa : Nat → Nat} {A : Nat → Prop} {U : State} {H H1 : Heap} (h : jj_S sa A U H) (hq : ∀ a : Nat, a < H.size → ¬ A a → H1[a]? = H[a]?) : jj_S sa A U H1 := ⟨h.1.kept hq, h.2.1.kept hq, h.2.2.1.kept hq, h.2.2.2.1.kept hq, h.2.2.2.2.1.kept hq, h.2.2.2.2.2.1.kept hq, h.2.2.2.2.2.2⟩
theorem jj_K.moved {D : va_G} {aC : Nat → ClassId} {u U : State} (hvm : u.vm.Alike U.vm) (h : jj_K D aC u) : jj_K D aC U := ⟨fun c q hq => u_Kn_moved hvm (h.1 c q hq), fun t ht => ⟨arrOfT_moved hvm (h.2 t ht).1, (h.2 t ht).2.moved hvm⟩⟩
theorem jj_Tw.warm {s U : State} (hW : s.WarmedH U.vm) (h : jj_Tw s) : jj_Tw U := by
  intro w hw
  have h1 := h w hw
  have hk := (List.mem_filter.mp hw).2
  cases w <;> try (exact absurd hk Bool.false_ne_true)
  case fieldLinkNest => exact va_Nw.warmF hW h1
  case methodLinkNest => exact va_Nw.warmM hW h1
  case castable => exact va_Nw.warmC hW h1
  case declares => exact va_tabs rfl (rfl : (s.setVm U.vm).vm = U.vm) (by rw [Cond.declares_setVm hW.alike]; exact h1)
  case arrayOver t =>
    cases t <;> try (exact absurd hk Bool.false_ne_true)
    exact va_AO.moved hW.alike h1
theorem jj_Tw.same {u U : State} (hvm : u.vm = U.vm) (h : jj_Tw u) : jj_Tw U := by
  intro w hw
  have h1 := h w hw
  have hk := (List.mem_filter.mp hw).2
  cases w <;> try (exact absurd hk Bool.false_ne_true)
  case fieldLinkNest => exact h1.same rfl hvm
  case methodLinkNest => exact h1.same rfl hvm
  case castable => exact h1.same rfl hvm
  case declares => exact h1.same rfl hvm
  case arrayOver t =>
    cases t <;> try (exact absurd hk Bool.false_ne_true)
    exact va_AO.moved (by rw [hvm]; exact Vm.Alike.refl _) h1
theorem jj_Fw.moved {u U : State} (hvm : u.vm.Alike U.vm) (h : jj_Fw u) : jj_Fw U := fun q hq => va_Fw.moved (jj_flx q hq) hvm (h q hq)
/-- a state's world -/
def jj_Wd (G : jj_G) (τ : jj_T) (I : jj_I) (L : jj_L) (r : jj_R) (U : State) : Prop := jj_V G.2.1 G.2.2.1 G.2.2.2.1 G.2.2.2.2.1 τ I L r U.heap ∧ jj_K G.2.1 G.2.2.1 U ∧ jj_Tw U ∧ jj_Fw U ∧ jj_S G.2.2.2.2.2 G.2.2.2.2.1 U U.heap
abbrev jj_P : Type := Option jj_v → jj_T → jj_I → jj_L → jj_R → Prop
abbrev jj_PX : Type := Nat → jj_T → jj_I → jj_L → jj_R → Prop
def jj_Qc (G : jj_G) (P : jj_P) : Array Value → State → Outcome → State → Prop := fun _ st oc t => ∃ (v : Option jj_v) (τ : jj_T) (I : jj_I) (L : jj_L) (r : jj_R), oc = .returned (v.map (jj_c G.2.2.2.1)) ∧ P v τ I L r ∧ jj_Wd G τ I L r t ∧ va_F G.2.2.2.2.1 st t
def jj_Xc (G : jj_G) (PX : jj_PX) : Addr → String → State → State → Prop := fun q E st t => E = "BranchCells$Failing" ∧ ∃ (a : Nat) (τ : jj_T) (I : jj_I) (L : jj_L) (r : jj_R), q = G.2.2.2.1 a ∧ τ a = some (.inl 32) ∧ PX a τ I L r ∧ jj_Wd G τ I L r t ∧ va_F G.2.2.2.2.1 st t
/-- a contract: the words, the room; the arguments, whether it makes cells; the memory; what it answers, what it throws -/
def jj_M (G : jj_G) (y : MethodName) (ws : List Cond) (rm : Room) (As : List jj_v) (fr : Bool) (τ : jj_T) (I : jj_I) (L : jj_L) (r : jj_R) (P : jj_P) (PX : jj_PX) : Prop :=
  vy_Met G.1 y ws rm (va_Pc (As.map (jj_c G.2.2.2.1)) (fun U => jj_Wd G τ I L r U ∧ (fr = true → ∀ q, U.heap.size ≤ q → G.2.2.2.2.1 q))) (jj_Qc G P) (jj_Xc G PX) rm.cells rm.slots G.2.2.2.2.1


def jj_lk (ls : List (Nat × jj_v)) (i : Nat) : Option jj_v := match ls with
  | [] => none
  | q :: t => if q.1 = i then some q.2 else jj_lk t i
def jj_s1 (ls : List (Nat × jj_v)) (i : Nat) (v : jj_v) : List (Nat × jj_v) := (i, v) :: ls.filter (fun q => !(q.1 == i) && !(q.1 + 1 == i && jj_w2 q.2))
def jj_s2 (ls : List (Nat × jj_v)) (i : Nat) (v : jj_v) : List (Nat × jj_v) := (i, v) :: ls.filter (fun q => !(q.1 == i) && (!(q.1 == i + 1) && !(q.1 + 1 == i && jj_w2 q.2)))
def jj_as : Nat → List jj_v → List (Nat × jj_v)
  | _, [] => []
  | i, v :: vs => (i, v) :: jj_as (if jj_w2 v then i + 2 else i + 1) vs
def jj_sub : List (Nat × jj_v) → List (Nat × jj_v) → Prop
  | [], _ => True
  | q :: t, ls => jj_lk ls q.1 = some q.2 ∧ jj_sub t ls
abbrev jj_ml (ad : Nat → Nat) (ls : List (Nat × jj_v)) : List (Nat × Value) := ls.map fun q => (q.1, jj_c ad q.2)
theorem jj_w2c (ad : Nat → Nat) (v : jj_v) : jj_w2 v = ((jj_c ad v).category == 2) := by
  rcases v with x | x | r
  · rfl
  · rfl
  · cases r <;> rfl
theorem jj_lka {ad : Nat → Nat} {la : Array Slot} {nL : Nat} {ls : List (Nat × jj_v)} (h : lv_has la nL (jj_ml ad ls)) {i : Nat} {v : jj_v} (hk : jj_lk ls i = some v) : la[i]? = some (.val (jj_c ad v)) := by
  have key : (i, jj_c ad v) ∈ jj_ml ad ls := by
    clear h
    induction ls with
    | nil => cases hk
    | cons q t ih =>
      unfold jj_lk at hk
      split at hk
      · next e =>
        cases hk
        subst e
        exact List.mem_cons_self
      · exact List.mem_cons_of_mem _ (ih hk)
  exact h.2.2 _ key
theorem jj_ms1 (ad : Nat → Nat) (ls : List (Nat × jj_v)) (i : Nat) (v : jj_v) : (i, jj_c ad v) :: (jj_ml ad ls).filter (fun q => !(q.1 == i) && !(q.1 + 1 == i && q.2.category == 2)) = jj_ml ad (jj_s1 ls i v) := by
  show _ = (i, jj_c ad v) :: List.map _ (List.filter _ _)
  rw [List.filter_map]
  congr 2
  apply List.filter_congr
  intro q _
  simp only [Function.comp, jj_w2c ad]
theorem jj_ms2 (ad : Nat → Nat) (ls : List (Nat × jj_v)) (i : Nat) (v : jj_v) : (i, jj_c ad v) :: (jj_ml ad ls).filter (fun q => !(q.1 == i) && (!(q.1 == i + 1) && !(q.1 + 1 == i && q.2.category == 2))) = jj_ml ad (jj_s2 ls i v) := by
  show _ = (i, jj_c ad v) :: List.map _ (List.filter _ _)
  rw [List.filter_map]
  congr 2
  apply List.filter_congr
  intro q _
  simp only [Function.comp, jj_w2c ad]
theorem jj_mas (ad : Nat → Nat) : ∀ (As : List jj_v) (i : Nat), lv_args i (As.map (jj_c ad)) = jj_ml ad (jj_as i As)
  | [], _ => rfl
  | v :: vs, i => by
    have h := jj_mas ad vs (if jj_w2 v = true then i + 2 else i + 1)
    rw [show (jj_ml ad (jj_as i (v :: vs))) = (i, jj_c ad v) :: jj_ml ad (jj_as (if jj_w2 v = true then i + 2 else i + 1) vs) from rfl, ← h]
    have e : (if (jj_c ad v).category = 2 then i + 2 else i + 1) = (if jj_w2 v = true then i + 2 else i + 1) := by
      rw [jj_w2c ad]
      simp
    rw [← e]
    rfl
theorem jj_msub {ad : Nat → Nat} {la : Array Slot} {nL : Nat} {ls : List (Nat × jj_v)} (h : lv_has la nL (jj_ml ad ls)) {ls' : List (Nat × jj_v)} (hs : jj_sub ls' ls) : lv_has la nL (jj_ml ad ls') := by
  refine ⟨h.1, h.2.1, ?_⟩
  intro q hq
  obtain ⟨z, hz, rfl⟩ := List.mem_map.mp hq
  clear hq
  induction ls' with
  | nil => cases hz
  | cons y t ih =>
    rcases List.mem_cons.mp hz with e | e
    · subst e
      exact jj_lka h hs.1
    · exact ih hs.2 e
/-- the judgement: the machine at pc with these locals and this stack over this memory comes to Q -/
def jj_J (X : jj_X) (Q : State → Prop) (k n pc : Nat) (ls : List (Nat × jj_v)) (st : List jj_v) (τ : jj_T) (I : jj_I) (L : jj_L) (r : jj_R) : Prop :=
  match X with
  | ((l, D, aC, ad, A, _), p, e, R, s, m, args, below, meth, c) => ∀ (H : Heap) (locs : List Loc) (la : Array Slot), lv_has la c.maxLocals (jj_ml ad ls) → jj_V D aC ad A τ I L r H → va_S A s.heap H locs →
    W p l e R s m args below meth c H locs k n Q (F0 m pc la (st.map (jj_c ad)))
/-- .. with the thing a thrown over the frame -/
def jj_JT (X : jj_X) (Q : State → Prop) (k n pc : Nat) (ls : List (Nat × jj_v)) (a : Nat) (τ : jj_T) (I : jj_I) (L : jj_L) (r : jj_R) : Prop :=
  match X with
  | ((l, D, aC, ad, A, _), p, e, R, s, m, args, below, meth, c) => ∀ (H : Heap) (locs : List Loc) (la : Array Slot) (rest : List Value), lv_has la c.maxLocals (jj_ml ad ls) → jj_V D aC ad A τ I L r H → va_S A s.heap H locs → τ a = some (.inl 32) →
    vy_W p l e R s m args below meth c H locs k n Q (F0 m pc la rest) (ad a)
/-- what holds all through a method's walk -/
def jj_ok (X : jj_X) (cc : ByteArray) (own : String) (nL fr lo mc ms : Nat) : Prop :=
  match X with
  | ((_, D, aC, _, A, sa), p, _, R, s, m, args, _, meth, c) => p.tables.exec = Jvm.exec ∧ c.code = cc ∧ c.maxLocals = nL ∧ s.vm.findClass own = some m.cls ∧ (∀ w ∈ lw_all, w.before args s = true) ∧ jj_K D aC s ∧ jj_Tw s ∧ jj_Fw s ∧ jj_S sa A s s.heap ∧ meth.locks = false ∧ R.frames = fr ∧ R.locals = lo ∧ R.cells = mc ∧ R.slots = ms
def jj_End (X : jj_X) (P : jj_P) (PX : jj_PX) (mc ms : Nat) : State → Prop :=
  match X with
  | (G, _, _, _, s, _, args, below, _, _) => vy_MQ below (jj_Qc G P) (jj_Xc G PX) args s mc ms G.2.2.2.2.1
def jj_Ret (X : jj_X) (t : Option FieldType) : Prop := match X with
  | (_, _, _, _, _, _, _, _, meth, _) => meth.sig.returnType = t
def jj_Ctor (X : jj_X) : Prop := match X with
  | (_, _, _, _, _, _, _, _, meth, _) => meth.name = "<init>"
def jj_NoH (X : jj_X) : Prop := match X with
  | (_, _, _, _, _, _, _, _, _, c) => ∀ x ∈ c.exceptionTable.toList, False
def jj_Fr (X : jj_X) : Prop := match X with
  | ((_, _, _, _, A, _), _, _, _, s, _, _, _, _, _) => ∀ q, s.heap.size ≤ q → A q
def jj_Id (X : jj_X) : Prop := X.1.2.2.2.1 = fun a => a

section JR
variable {X : jj_X} {cc : ByteArray} {own : String} {nL fr lo mc ms : Nat} {Q : State → Prop} {k n pc : Nat} {ls : List (Nat × jj_v)} {st : List jj_v} {τ : jj_T} {I : jj_I} {L : jj_L} {r : jj_R}
theorem jj_iconst (hX : jj_ok X cc own nL fr lo mc ms) {z : Int} {v : Int32} (hdg : decode cc pc = .ok (.iconst z, 1)) (hv : Int32.ofInt z = v) (kk : jj_J X Q k n (pc + 1) ls (jI v :: st) τ I L r) : jj_J X Q k n pc ls st τ I L r := by
  obtain ⟨⟨l, D, aC, ad, A, sa⟩, p, e, R, s, m, args, below, meth, c⟩ := X
  intro H locs la hl hV hS
  exact lv_iconst hX.1 hX.2.1 hdg hv (kk H locs la hl hV hS)
theorem jj_bipush (hX : jj_ok X cc own nL fr lo mc ms) {z : Int} {v : Int32} (hdg : decode cc pc = .ok (.bipush z, 2)) (hv : (Int8.ofInt z).toInt32 = v) (kk : jj_J X Q k n (pc + 2) ls (jI v :: st) τ I L r) : jj_J X Q k n pc ls st τ I L r := by
  obtain ⟨⟨l, D, aC, ad, A, sa⟩, p, e, R, s, m, args, below, meth, c⟩ := X
  intro H locs la hl hV hS
  exact lv_bipush hX.1 hX.2.1 hdg hv (kk H locs la hl hV hS)
theorem jj_sipush (hX : jj_ok X cc own nL fr lo mc ms) {z : Int} {v : Int32} (hdg : decode cc pc = .ok (.sipush z, 3)) (hv : (Int16.ofInt z).toInt32 = v) (kk : jj_J X Q k n (pc + 3) ls (jI v :: st) τ I L r) : jj_J X Q k n pc ls st τ I L r := by
  obtain ⟨⟨l, D, aC, ad, A, sa⟩, p, e, R, s, m, args, below, meth, c⟩ := X
  intro H locs la hl hV hS
  exact lv_sipush hX.1 hX.2.1 hdg hv (kk H locs la hl hV hS)
theorem jj_lconst (hX : jj_ok X cc own nL fr lo mc ms) {z : Fin 2} {v : Int64} (hdg : decode cc pc = .ok (.lconst z, 1)) (hv : Int64.ofNat (z : Nat) = v) (kk : jj_J X Q k n (pc + 1) ls (jL v :: st) τ I L r) : jj_J X Q k n pc ls st τ I L r := by
  obtain ⟨⟨l, D, aC, ad, A, sa⟩, p, e, R, s, m, args, below, meth, c⟩ := X
  intro H locs la hl hV hS
  exact lv_lconst hX.1 hX.2.1 hdg hv (kk H locs la hl hV hS)
theorem jj_null (hX : jj_ok X cc own nL fr lo mc ms) (hdg : decode cc pc = .ok (.aconst_null, 1)) (kk : jj_J X Q k n (pc + 1) ls (jR none :: st) τ I L r) : jj_J X Q k n pc ls st τ I L r := by
  obtain ⟨⟨l, D, aC, ad, A, sa⟩, p, e, R, s, m, args, below, meth, c⟩ := X
  intro H locs la hl hV hS
  exact lv_null hX.1 hX.2.1 hdg (kk H locs la hl hV hS)
theorem jj_ldc (hX : jj_ok X cc own nL fr lo mc ms) {index : Nat} {v : Int32} (hw : Cond.constant own index v ∈ lw_all) (hdg : decode cc pc = .ok (.ldc index, 2)) (kk : jj_J X Q k n (pc + 2) ls (jI v :: st) τ I L r) : jj_J X Q k n pc ls st τ I L r := by
  obtain ⟨⟨l, D, aC, ad, A, sa⟩, p, e, R, s, m, args, below, meth, c⟩ := X
  intro H locs la hl hV hS
  exact lv_ldc hX.1 hX.2.1 hX.2.2.2.1 (hX.2.2.2.2.1 _ hw) hdg (kk H locs la hl hV hS)
theorem jj_ldcw (hX : jj_ok X cc own nL fr lo mc ms) {index : Nat} {v : Int32} (hw : Cond.constant own index v ∈ lw_all) (hdg : decode cc pc = .ok (.ldc_w index, 3)) (kk : jj_J X Q k n (pc + 3) ls (jI v :: st) τ I L r) : jj_J X Q k n pc ls st τ I L r := by
  obtain ⟨⟨l, D, aC, ad, A, sa⟩, p, e, R, s, m, args, below, meth, c⟩ := X
  intro H locs la hl hV hS
  exact lv_ldcw hX.1 hX.2.1 hX.2.2.2.1 (hX.2.2.2.2.1 _ hw) hdg (kk H locs la hl hV hS)
theorem jj_ldc2 (hX : jj_ok X cc own nL fr lo mc ms) {index : Nat} {v : Int64} (hw : Cond.constantLong own index v ∈ lw_all) (hdg : decode cc pc = .ok (.ldc2_w index, 3)) (kk : jj_J X Q k n (pc + 3) ls (jL v :: st) τ I L r) : jj_J X Q k n pc ls st τ I L r := by
  obtain ⟨⟨l, D, aC, ad, A, sa⟩, p, e, R, s, m, args, below, meth, c⟩ := X
  intro H locs la hl hV hS
  exact lv_ldc2 hX.1 hX.2.1 hX.2.2.2.1 (hX.2.2.2.2.1 _ hw) hdg (kk H locs la hl hV hS)
theorem jj_iload_n (hX : jj_ok X cc own nL fr lo mc ms) {q : Fin 4} {x : Int32} (hdg : decode cc pc = .ok (.iload_n q, 1)) (hl0 : jj_lk ls (q : Nat) = some (jI x)) (kk : jj_J X Q k n (pc + 1) ls (jI x :: st) τ I L r) : jj_J X Q k n pc ls st τ I L r := by
  obtain ⟨⟨l, D, aC, ad, A, sa⟩, p, e, R, s, m, args, below, meth, c⟩ := X
  intro H locs la hl hV hS
  exact lv_iload_n hX.1 hX.2.1 hdg rfl (jj_lka hl hl0) (kk H locs la hl hV hS)
theorem jj_iload (hX : jj_ok X cc own nL fr lo mc ms) {i : Nat} {x : Int32} (hdg : decode cc pc = .ok (.iload i, 2)) (hl0 : jj_lk ls i = some (jI x)) (kk : jj_J X Q k n (pc + 2) ls (jI x :: st) τ I L r) : jj_J X Q k n pc ls st τ I L r := by
  obtain ⟨⟨l, D, aC, ad, A, sa⟩, p, e, R, s, m, args, below, meth, c⟩ := X
  intro H locs la hl hV hS
  exact lv_iload hX.1 hX.2.1 hdg (jj_lka hl hl0) (kk H locs la hl hV hS)
theorem jj_lload_n (hX : jj_ok X cc own nL fr lo mc ms) {q : Fin 4} {x : Int64} (hdg : decode cc pc = .ok (.lload_n q, 1)) (hl0 : jj_lk ls (q : Nat) = some (jL x)) (kk : jj_J X Q k n (pc + 1) ls (jL x :: st) τ I L r) : jj_J X Q k n pc ls st τ I L r := by
  obtain ⟨⟨l, D, aC, ad, A, sa⟩, p, e, R, s, m, args, below, meth, c⟩ := X
  intro H locs la hl hV hS
  exact lv_lload_n hX.1 hX.2.1 hdg rfl (jj_lka hl hl0) (kk H locs la hl hV hS)
theorem jj_lload (hX : jj_ok X cc own nL fr lo mc ms) {i : Nat} {x : Int64} (hdg : decode cc pc = .ok (.lload i, 2)) (hl0 : jj_lk ls i = some (jL x)) (kk : jj_J X Q k n (pc + 2) ls (jL x :: st) τ I L r) : jj_J X Q k n pc ls st τ I L r := by
  obtain ⟨⟨l, D, aC, ad, A, sa⟩, p, e, R, s, m, args, below, meth, c⟩ := X
  intro H locs la hl hV hS
  exact lv_lload hX.1 hX.2.1 hdg (jj_lka hl hl0) (kk H locs la hl hV hS)
theorem jj_aload_n (hX : jj_ok X cc own nL fr lo mc ms) {q : Fin 4} {x : Option Nat} (hdg : decode cc pc = .ok (.aload_n q, 1)) (hl0 : jj_lk ls (q : Nat) = some (jR x)) (kk : jj_J X Q k n (pc + 1) ls (jR x :: st) τ I L r) : jj_J X Q k n pc ls st τ I L r := by
  obtain ⟨⟨l, D, aC, ad, A, sa⟩, p, e, R, s, m, args, below, meth, c⟩ := X
  intro H locs la hl hV hS
  cases x with
  | none => exact lv_aload_nN hX.1 hX.2.1 hdg rfl (jj_lka hl hl0) (kk H locs la hl hV hS)
  | some x => exact lv_aload_n hX.1 hX.2.1 hdg rfl (jj_lka hl hl0) (kk H locs la hl hV hS)
theorem jj_aload (hX : jj_ok X cc own nL fr lo mc ms) {i : Nat} {x : Option Nat} (hdg : decode cc pc = .ok (.aload i, 2)) (hl0 : jj_lk ls i = some (jR x)) (kk : jj_J X Q k n (pc + 2) ls (jR x :: st) τ I L r) : jj_J X Q k n pc ls st τ I L r := by
  obtain ⟨⟨l, D, aC, ad, A, sa⟩, p, e, R, s, m, args, below, meth, c⟩ := X
  intro H locs la hl hV hS
  cases x with
  | none => exact lv_aloadN hX.1 hX.2.1 hdg (jj_lka hl hl0) (kk H locs la hl hV hS)
  | some x => exact lv_aload hX.1 hX.2.1 hdg (jj_lka hl hl0) (kk H locs la hl hV hS)
theorem jj_nlt {X : jj_X} {i : Nat} (hX : jj_ok X cc own nL fr lo mc ms) (h : i < nL) : i < X.2.2.2.2.2.2.2.2.2.maxLocals := by
  obtain ⟨⟨l, D, aC, ad, A, sa⟩, p, e, R, s, m, args, below, meth, c⟩ := X
  rw [hX.2.2.1]; exact h
theorem jj_istore (hX : jj_ok X cc own nL fr lo mc ms) {i : Nat} {x : Int32} (hdg : decode cc pc = .ok (.istore i, 2)) (hn : i < nL) (kk : jj_J X Q k n (pc + 2) (jj_s1 ls i (jI x)) st τ I L r) : jj_J X Q k n pc ls (jI x :: st) τ I L r := by
  obtain ⟨⟨l, D, aC, ad, A, sa⟩, p, e, R, s, m, args, below, meth, c⟩ := X
  intro H locs la hl hV hS
  exact lv_istore hX.1 hX.2.1 hdg hl (by rw [hX.2.2.1]; exact hn) (jj_ms1 ad ls i (jI x)) (fun la hl => kk H locs la hl hV hS)
theorem jj_istore_n (hX : jj_ok X cc own nL fr lo mc ms) {q : Fin 4} {x : Int32} (hdg : decode cc pc = .ok (.istore_n q, 1)) (hn : (q : Nat) < nL) (kk : jj_J X Q k n (pc + 1) (jj_s1 ls (q : Nat) (jI x)) st τ I L r) : jj_J X Q k n pc ls (jI x :: st) τ I L r := by
  obtain ⟨⟨l, D, aC, ad, A, sa⟩, p, e, R, s, m, args, below, meth, c⟩ := X
  intro H locs la hl hV hS
  exact lv_istore_n hX.1 hX.2.1 hdg rfl hl (by rw [hX.2.2.1]; exact hn) (jj_ms1 ad ls _ (jI x)) (fun la hl => kk H locs la hl hV hS)
theorem jj_lstore (hX : jj_ok X cc own nL fr lo mc ms) {i : Nat} {x : Int64} (hdg : decode cc pc = .ok (.lstore i, 2)) (hn : i + 1 < nL) (kk : jj_J X Q k n (pc + 2) (jj_s2 ls i (jL x)) st τ I L r) : jj_J X Q k n pc ls (jL x :: st) τ I L r := by
  obtain ⟨⟨l, D, aC, ad, A, sa⟩, p, e, R, s, m, args, below, meth, c⟩ := X
  intro H locs la hl hV hS
  exact lv_lstore hX.1 hX.2.1 hdg hl (by rw [hX.2.2.1]; exact hn) (jj_ms2 ad ls i (jL x)) (fun la hl => kk H locs la hl hV hS)
theorem jj_lstore_n (hX : jj_ok X cc own nL fr lo mc ms) {q : Fin 4} {x : Int64} (hdg : decode cc pc = .ok (.lstore_n q, 1)) (hn : (q : Nat) + 1 < nL) (kk : jj_J X Q k n (pc + 1) (jj_s2 ls (q : Nat) (jL x)) st τ I L r) : jj_J X Q k n pc ls (jL x :: st) τ I L r := by
  obtain ⟨⟨l, D, aC, ad, A, sa⟩, p, e, R, s, m, args, below, meth, c⟩ := X
  intro H locs la hl hV hS
  exact lv_lstore_n hX.1 hX.2.1 hdg rfl hl (by rw [hX.2.2.1]; exact hn) (jj_ms2 ad ls _ (jL x)) (fun la hl => kk H locs la hl hV hS)
theorem jj_astore (hX : jj_ok X cc own nL fr lo mc ms) {i : Nat} {x : Option Nat} (hdg : decode cc pc = .ok (.astore i, 2)) (hn : i < nL) (kk : jj_J X Q k n (pc + 2) (jj_s1 ls i (jR x)) st τ I L r) : jj_J X Q k n pc ls (jR x :: st) τ I L r := by
  obtain ⟨⟨l, D, aC, ad, A, sa⟩, p, e, R, s, m, args, below, meth, c⟩ := X
  intro H locs la hl hV hS
  cases x with
  | none => exact lv_astoreN hX.1 hX.2.1 hdg hl (by rw [hX.2.2.1]; exact hn) (jj_ms1 ad ls i (jR none)) (fun la hl => kk H locs la hl hV hS)
  | some x => exact lv_astore hX.1 hX.2.1 hdg hl (by rw [hX.2.2.1]; exact hn) (jj_ms1 ad ls i (jR (some x))) (fun la hl => kk H locs la hl hV hS)
theorem jj_astore_n (hX : jj_ok X cc own nL fr lo mc ms) {q : Fin 4} {x : Option Nat} (hdg : decode cc pc = .ok (.astore_n q, 1)) (hn : (q : Nat) < nL) (kk : jj_J X Q k n (pc + 1) (jj_s1 ls (q : Nat) (jR x)) st τ I L r) : jj_J X Q k n pc ls (jR x :: st) τ I L r := by
  obtain ⟨⟨l, D, aC, ad, A, sa⟩, p, e, R, s, m, args, below, meth, c⟩ := X
  intro H locs la hl hV hS
  cases x with
  | none => exact lv_astore_nN hX.1 hX.2.1 hdg rfl hl (by rw [hX.2.2.1]; exact hn) (jj_ms1 ad ls _ (jR none)) (fun la hl => kk H locs la hl hV hS)
  | some x => exact lv_astore_n hX.1 hX.2.1 hdg rfl hl (by rw [hX.2.2.1]; exact hn) (jj_ms1 ad ls _ (jR (some x))) (fun la hl => kk H locs la hl hV hS)
theorem jj_iincW {p : Program} {l : Launch} {e : Env} {R : Room} {s : State} {m : MethodId} {args : Array Value} {below : List Frame} {meth : Method} {c : Code} {H : Heap} {locs : List Loc} {cells slots : Nat} {Q : State → Prop} {cc : ByteArray} {pc : Nat} {ls : Array Slot} {rest : List Value} (hexec : p.tables.exec = Jvm.exec) (hb : c.code = cc) {i nL : Nat} {n : Int} {x v : Int32} {lv : List (Nat × Value)} (hdg : decode cc pc = .ok (.iinc i n, 3)) (h : lv_has ls nL lv) (hk : ls[i]? = some (.val (.int x))) (hv : x + Int32.ofInt n = v) (hn : i < nL)
    (kk : ∀ ls' : Array Slot, lv_has ls' nL ((i, Value.int v) :: lv.filter (fun q => !(q.1 == i) && !(q.1 + 1 == i && q.2.category == 2))) → W p l e R s m args below meth c H locs cells slots Q (F0 m (pc + 3) ls' rest)) : W p l e R s m args below meth c H locs cells slots Q (F0 m pc ls rest) := by
  refine lv_iinc hexec hb (lv := (i, .int x) :: lv) (k := 0) hdg ⟨h.1, h.2.1, ?_⟩ rfl hv hn rfl ?_
  · intro q hq
    rcases List.mem_cons.mp hq with e | e
    · rw [e]; exact hk
    · exact h.2.2 q e
  · intro ls' h'
    refine kk ls' ?_
    have e : ((i, Value.int x) :: lv).filter (fun q => !(q.1 == i) && !(q.1 + 1 == i && q.2.category == 2)) = lv.filter (fun q => !(q.1 == i) && !(q.1 + 1 == i && q.2.category == 2)) := by
      rw [List.filter_cons_of_neg]
      simp
    rw [e] at h'
    exact h' 
theorem jj_iinc (hX : jj_ok X cc own nL fr lo mc ms) {i : Nat} {z : Int} {x v : Int32} (hdg : decode cc pc = .ok (.iinc i z, 3)) (hl0 : jj_lk ls i = some (jI x)) (hv : x + Int32.ofInt z = v) (hn : i < nL) (kk : jj_J X Q k n (pc + 3) (jj_s1 ls i (jI v)) st τ I L r) : jj_J X Q k n pc ls st τ I L r := by
  obtain ⟨⟨l, D, aC, ad, A, sa⟩, p, e, R, s, m, args, below, meth, c⟩ := X
  intro H locs la hl hV hS
  refine jj_iincW hX.1 hX.2.1 hdg hl (jj_lka hl hl0) hv (by rw [hX.2.2.1]; exact hn) (fun la hl => kk H locs la ?_ hV hS)
  rw [← jj_ms1 ad ls i (jI v)]
  exact hl
theorem jj_iadd (hX : jj_ok X cc own nL fr lo mc ms) {x y : Int32} (hdg : decode cc pc = .ok (.iadd, 1)) (kk : jj_J X Q k n (pc + 1) ls (jI (x + y) :: st) τ I L r) : jj_J X Q k n pc ls (jI y :: jI x :: st) τ I L r := by
  obtain ⟨⟨l, D, aC, ad, A, sa⟩, p, e, R, s, m, args, below, meth, c⟩ := X
  intro H locs la hl hV hS
  exact lv_iadd hX.1 hX.2.1 hdg (kk H locs la hl hV hS)
theorem jj_isub (hX : jj_ok X cc own nL fr lo mc ms) {x y : Int32} (hdg : decode cc pc = .ok (.isub, 1)) (kk : jj_J X Q k n (pc + 1) ls (jI (x - y) :: st) τ I L r) : jj_J X Q k n pc ls (jI y :: jI x :: st) τ I L r := by
  obtain ⟨⟨l, D, aC, ad, A, sa⟩, p, e, R, s, m, args, below, meth, c⟩ := X
  intro H locs la hl hV hS
  exact lv_isub hX.1 hX.2.1 hdg (kk H locs la hl hV hS)
theorem jj_imul (hX : jj_ok X cc own nL fr lo mc ms) {x y : Int32} (hdg : decode cc pc = .ok (.imul, 1)) (kk : jj_J X Q k n (pc + 1) ls (jI (x * y) :: st) τ I L r) : jj_J X Q k n pc ls (jI y :: jI x :: st) τ I L r := by
  obtain ⟨⟨l, D, aC, ad, A, sa⟩, p, e, R, s, m, args, below, meth, c⟩ := X
  intro H locs la hl hV hS
  exact lv_imul hX.1 hX.2.1 hdg (kk H locs la hl hV hS)
theorem jj_iand (hX : jj_ok X cc own nL fr lo mc ms) {x y : Int32} (hdg : decode cc pc = .ok (.iand, 1)) (kk : jj_J X Q k n (pc + 1) ls (jI (x &&& y) :: st) τ I L r) : jj_J X Q k n pc ls (jI y :: jI x :: st) τ I L r := by
  obtain ⟨⟨l, D, aC, ad, A, sa⟩, p, e, R, s, m, args, below, meth, c⟩ := X
  intro H locs la hl hV hS
  exact lv_iand hX.1 hX.2.1 hdg (kk H locs la hl hV hS)
theorem jj_ior (hX : jj_ok X cc own nL fr lo mc ms) {x y : Int32} (hdg : decode cc pc = .ok (.ior, 1)) (kk : jj_J X Q k n (pc + 1) ls (jI (x ||| y) :: st) τ I L r) : jj_J X Q k n pc ls (jI y :: jI x :: st) τ I L r := by
  obtain ⟨⟨l, D, aC, ad, A, sa⟩, p, e, R, s, m, args, below, meth, c⟩ := X
  intro H locs la hl hV hS
  exact lv_ior hX.1 hX.2.1 hdg (kk H locs la hl hV hS)
theorem jj_ixor (hX : jj_ok X cc own nL fr lo mc ms) {x y : Int32} (hdg : decode cc pc = .ok (.ixor, 1)) (kk : jj_J X Q k n (pc + 1) ls (jI (x ^^^ y) :: st) τ I L r) : jj_J X Q k n pc ls (jI y :: jI x :: st) τ I L r := by
  obtain ⟨⟨l, D, aC, ad, A, sa⟩, p, e, R, s, m, args, below, meth, c⟩ := X
  intro H locs la hl hV hS
  exact lv_ixor hX.1 hX.2.1 hdg (kk H locs la hl hV hS)
theorem jj_ladd (hX : jj_ok X cc own nL fr lo mc ms) {x y : Int64} (hdg : decode cc pc = .ok (.ladd, 1)) (kk : jj_J X Q k n (pc + 1) ls (jL (x + y) :: st) τ I L r) : jj_J X Q k n pc ls (jL y :: jL x :: st) τ I L r := by
  obtain ⟨⟨l, D, aC, ad, A, sa⟩, p, e, R, s, m, args, below, meth, c⟩ := X
  intro H locs la hl hV hS
  exact lv_ladd hX.1 hX.2.1 hdg (kk H locs la hl hV hS)
theorem jj_lsub (hX : jj_ok X cc own nL fr lo mc ms) {x y : Int64} (hdg : decode cc pc = .ok (.lsub, 1)) (kk : jj_J X Q k n (pc + 1) ls (jL (x - y) :: st) τ I L r) : jj_J X Q k n pc ls (jL y :: jL x :: st) τ I L r := by
  obtain ⟨⟨l, D, aC, ad, A, sa⟩, p, e, R, s, m, args, below, meth, c⟩ := X
  intro H locs la hl hV hS
  exact lv_lsub hX.1 hX.2.1 hdg (kk H locs la hl hV hS)
theorem jj_lmul (hX : jj_ok X cc own nL fr lo mc ms) {x y : Int64} (hdg : decode cc pc = .ok (.lmul, 1)) (kk : jj_J X Q k n (pc + 1) ls (jL (x * y) :: st) τ I L r) : jj_J X Q k n pc ls (jL y :: jL x :: st) τ I L r := by
  obtain ⟨⟨l, D, aC, ad, A, sa⟩, p, e, R, s, m, args, below, meth, c⟩ := X
  intro H locs la hl hV hS
  exact lv_lmul hX.1 hX.2.1 hdg (kk H locs la hl hV hS)
theorem jj_land (hX : jj_ok X cc own nL fr lo mc ms) {x y : Int64} (hdg : decode cc pc = .ok (.land, 1)) (kk : jj_J X Q k n (pc + 1) ls (jL (x &&& y) :: st) τ I L r) : jj_J X Q k n pc ls (jL y :: jL x :: st) τ I L r := by
  obtain ⟨⟨l, D, aC, ad, A, sa⟩, p, e, R, s, m, args, below, meth, c⟩ := X
  intro H locs la hl hV hS
  exact lv_land hX.1 hX.2.1 hdg (kk H locs la hl hV hS)
theorem jj_lor (hX : jj_ok X cc own nL fr lo mc ms) {x y : Int64} (hdg : decode cc pc = .ok (.lor, 1)) (kk : jj_J X Q k n (pc + 1) ls (jL (x ||| y) :: st) τ I L r) : jj_J X Q k n pc ls (jL y :: jL x :: st) τ I L r := by
  obtain ⟨⟨l, D, aC, ad, A, sa⟩, p, e, R, s, m, args, below, meth, c⟩ := X
  intro H locs la hl hV hS
  exact lv_lor hX.1 hX.2.1 hdg (kk H locs la hl hV hS)
theorem jj_lxor (hX : jj_ok X cc own nL fr lo mc ms) {x y : Int64} (hdg : decode cc pc = .ok (.lxor, 1)) (kk : jj_J X Q k n (pc + 1) ls (jL (x ^^^ y) :: st) τ I L r) : jj_J X Q k n pc ls (jL y :: jL x :: st) τ I L r := by
  obtain ⟨⟨l, D, aC, ad, A, sa⟩, p, e, R, s, m, args, below, meth, c⟩ := X
  intro H locs la hl hV hS
  exact lv_lxor hX.1 hX.2.1 hdg (kk H locs la hl hV hS)
theorem jj_idiv (hX : jj_ok X cc own nL fr lo mc ms) {x y : Int32} (hdg : decode cc pc = .ok (.idiv, 1)) (hne : ¬ y = 0) (kk : jj_J X Q k n (pc + 1) ls (jI (x / y) :: st) τ I L r) : jj_J X Q k n pc ls (jI y :: jI x :: st) τ I L r := by
  obtain ⟨⟨l, D, aC, ad, A, sa⟩, p, e, R, s, m, args, below, meth, c⟩ := X
  intro H locs la hl hV hS
  exact lv_idiv hX.1 hX.2.1 hdg hne (kk H locs la hl hV hS)
theorem jj_ldiv (hX : jj_ok X cc own nL fr lo mc ms) {x y : Int64} (hdg : decode cc pc = .ok (.ldiv, 1)) (hne : ¬ y = 0) (kk : jj_J X Q k n (pc + 1) ls (jL (x / y) :: st) τ I L r) : jj_J X Q k n pc ls (jL y :: jL x :: st) τ I L r := by
  obtain ⟨⟨l, D, aC, ad, A, sa⟩, p, e, R, s, m, args, below, meth, c⟩ := X
  intro H locs la hl hV hS
  exact lv_ldiv hX.1 hX.2.1 hdg hne (kk H locs la hl hV hS)
theorem jj_irem (hX : jj_ok X cc own nL fr lo mc ms) {x y : Int32} (hdg : decode cc pc = .ok (.irem, 1)) (hne : ¬ y = 0) (kk : jj_J X Q k n (pc + 1) ls (jI (x - x / y * y) :: st) τ I L r) : jj_J X Q k n pc ls (jI y :: jI x :: st) τ I L r := by
  obtain ⟨⟨l, D, aC, ad, A, sa⟩, p, e, R, s, m, args, below, meth, c⟩ := X
  intro H locs la hl hV hS
  exact lv_irem hX.1 hX.2.1 hdg hne (kk H locs la hl hV hS)
theorem jj_lrem (hX : jj_ok X cc own nL fr lo mc ms) {x y : Int64} (hdg : decode cc pc = .ok (.lrem, 1)) (hne : ¬ y = 0) (kk : jj_J X Q k n (pc + 1) ls (jL (x - x / y * y) :: st) τ I L r) : jj_J X Q k n pc ls (jL y :: jL x :: st) τ I L r := by
  obtain ⟨⟨l, D, aC, ad, A, sa⟩, p, e, R, s, m, args, below, meth, c⟩ := X
  intro H locs la hl hV hS
  exact lv_lrem hX.1 hX.2.1 hdg hne (kk H locs la hl hV hS)
theorem jj_ishl (hX : jj_ok X cc own nL fr lo mc ms) {x y : Int32} (hdg : decode cc pc = .ok (.ishl, 1)) (kk : jj_J X Q k n (pc + 1) ls (jI (x <<< (y &&& 31)) :: st) τ I L r) : jj_J X Q k n pc ls (jI y :: jI x :: st) τ I L r := by
  obtain ⟨⟨l, D, aC, ad, A, sa⟩, p, e, R, s, m, args, below, meth, c⟩ := X
  intro H locs la hl hV hS
  exact lv_ishl hX.1 hX.2.1 hdg (kk H locs la hl hV hS)
theorem jj_ishr (hX : jj_ok X cc own nL fr lo mc ms) {x y : Int32} (hdg : decode cc pc = .ok (.ishr, 1)) (kk : jj_J X Q k n (pc + 1) ls (jI (x >>> (y &&& 31)) :: st) τ I L r) : jj_J X Q k n pc ls (jI y :: jI x :: st) τ I L r := by
  obtain ⟨⟨l, D, aC, ad, A, sa⟩, p, e, R, s, m, args, below, meth, c⟩ := X
  intro H locs la hl hV hS
  exact lv_ishr hX.1 hX.2.1 hdg (kk H locs la hl hV hS)
theorem jj_iushr (hX : jj_ok X cc own nL fr lo mc ms) {x y v : Int32} (hdg : decode cc pc = .ok (.iushr, 1)) (hv : (x.toUInt32 >>> (y.toUInt32 &&& Int32.toUInt32 31)).toInt32 = v) (kk : jj_J X Q k n (pc + 1) ls (jI v :: st) τ I L r) : jj_J X Q k n pc ls (jI y :: jI x :: st) τ I L r := by
  obtain ⟨⟨l, D, aC, ad, A, sa⟩, p, e, R, s, m, args, below, meth, c⟩ := X
  intro H locs la hl hV hS
  exact lv_iushr hX.1 hX.2.1 hdg hv (kk H locs la hl hV hS)
theorem jj_lshl (hX : jj_ok X cc own nL fr lo mc ms) {x v : Int64} {y : Int32} (hdg : decode cc pc = .ok (.lshl, 1)) (hv : x <<< (y.toInt64 &&& 63) = v) (kk : jj_J X Q k n (pc + 1) ls (jL v :: st) τ I L r) : jj_J X Q k n pc ls (jI y :: jL x :: st) τ I L r := by
  obtain ⟨⟨l, D, aC, ad, A, sa⟩, p, e, R, s, m, args, below, meth, c⟩ := X
  intro H locs la hl hV hS
  exact lv_lshl hX.1 hX.2.1 hdg hv (kk H locs la hl hV hS)
theorem jj_i2l (hX : jj_ok X cc own nL fr lo mc ms) {x : Int32} (hdg : decode cc pc = .ok (.i2l, 1)) (kk : jj_J X Q k n (pc + 1) ls (jL x.toInt64 :: st) τ I L r) : jj_J X Q k n pc ls (jI x :: st) τ I L r := by
  obtain ⟨⟨l, D, aC, ad, A, sa⟩, p, e, R, s, m, args, below, meth, c⟩ := X
  intro H locs la hl hV hS
  exact lv_i2l hX.1 hX.2.1 hdg rfl (kk H locs la hl hV hS)
theorem jj_l2i (hX : jj_ok X cc own nL fr lo mc ms) {x : Int64} (hdg : decode cc pc = .ok (.l2i, 1)) (kk : jj_J X Q k n (pc + 1) ls (jI x.toInt32 :: st) τ I L r) : jj_J X Q k n pc ls (jL x :: st) τ I L r := by
  obtain ⟨⟨l, D, aC, ad, A, sa⟩, p, e, R, s, m, args, below, meth, c⟩ := X
  intro H locs la hl hV hS
  exact lv_l2i hX.1 hX.2.1 hdg rfl (kk H locs la hl hV hS)
theorem jj_lcmp (hX : jj_ok X cc own nL fr lo mc ms) {x y : Int64} (hdg : decode cc pc = .ok (.lcmp, 1)) (kk : jj_J X Q k n (pc + 1) ls (jI (lg_cmp x y) :: st) τ I L r) : jj_J X Q k n pc ls (jL y :: jL x :: st) τ I L r := by
  obtain ⟨⟨l, D, aC, ad, A, sa⟩, p, e, R, s, m, args, below, meth, c⟩ := X
  intro H locs la hl hV hS
  exact W.lcmp hX.1 hX.2.1 hdg (kk H locs la hl hV hS)
theorem jj_cat1 (ad : Nat → Nat) {v : jj_v} (h : jj_w2 v = false) : (jj_c ad v).category = 1 := by
  rcases v with x | x | r
  · rfl
  · cases h
  · cases r <;> rfl
theorem jj_dup (hX : jj_ok X cc own nL fr lo mc ms) {v : jj_v} (hdg : decode cc pc = .ok (.dup, 1)) (h1 : jj_w2 v = false) (kk : jj_J X Q k n (pc + 1) ls (v :: v :: st) τ I L r) : jj_J X Q k n pc ls (v :: st) τ I L r := by
  obtain ⟨⟨l, D, aC, ad, A, sa⟩, p, e, R, s, m, args, below, meth, c⟩ := X
  intro H locs la hl hV hS
  exact lv_dup hX.1 hX.2.1 hdg (jj_cat1 ad h1) (kk H locs la hl hV hS)
theorem jj_pop (hX : jj_ok X cc own nL fr lo mc ms) {v : jj_v} (hdg : decode cc pc = .ok (.pop, 1)) (h1 : jj_w2 v = false) (kk : jj_J X Q k n (pc + 1) ls st τ I L r) : jj_J X Q k n pc ls (v :: st) τ I L r := by
  obtain ⟨⟨l, D, aC, ad, A, sa⟩, p, e, R, s, m, args, below, meth, c⟩ := X
  intro H locs la hl hV hS
  exact lv_pop hX.1 hX.2.1 hdg (jj_cat1 ad h1) (kk H locs la hl hV hS)
theorem jj_dup_x1 (hX : jj_ok X cc own nL fr lo mc ms) {v u : jj_v} (hdg : decode cc pc = .ok (.dup_x1, 1)) (h1 : jj_w2 v = false) (h2 : jj_w2 u = false) (kk : jj_J X Q k n (pc + 1) ls (v :: u :: v :: st) τ I L r) : jj_J X Q k n pc ls (v :: u :: st) τ I L r := by
  obtain ⟨⟨l, D, aC, ad, A, sa⟩, p, e, R, s, m, args, below, meth, c⟩ := X
  intro H locs la hl hV hS
  exact lv_dup_x1 hX.1 hX.2.1 hdg (jj_cat1 ad h1) (jj_cat1 ad h2) (kk H locs la hl hV hS)
theorem jj_dup2 (hX : jj_ok X cc own nL fr lo mc ms) {v u : jj_v} (hdg : decode cc pc = .ok (.dup2, 1)) (h1 : jj_w2 v = false) (h2 : jj_w2 u = false) (kk : jj_J X Q k n (pc + 1) ls (v :: u :: v :: u :: st) τ I L r) : jj_J X Q k n pc ls (v :: u :: st) τ I L r := by
  obtain ⟨⟨l, D, aC, ad, A, sa⟩, p, e, R, s, m, args, below, meth, c⟩ := X
  intro H locs la hl hV hS
  exact lv_dup2_11 hX.1 hX.2.1 hdg (jj_cat1 ad h1) (jj_cat1 ad h2) (kk H locs la hl hV hS)
theorem jj_if_eq (hX : jj_ok X cc own nL fr lo mc ms) {x : Int32} {off : Int} (tgt : Nat) (hdg : decode cc pc = .ok (.ifCond .eq off, 3)) (ht : (pc : Int) + off = (tgt : Int)) (kt : x = 0 → jj_J X Q k n tgt ls st τ I L r) (kf : ¬ x = 0 → jj_J X Q k n (pc + 3) ls st τ I L r) : jj_J X Q k n pc ls (jI x :: st) τ I L r := by
  obtain ⟨⟨l, D, aC, ad, A, sa⟩, p, e, R, s, m, args, below, meth, c⟩ := X
  intro H locs la hl hV hS
  exact lv_if_eq hX.1 hX.2.1 hdg ht (fun q => kt q H locs la hl hV hS) (fun q => kf q H locs la hl hV hS)
theorem jj_icmp_eq (hX : jj_ok X cc own nL fr lo mc ms) {x y : Int32} {off : Int} (tgt : Nat) (hdg : decode cc pc = .ok (.if_icmp .eq off, 3)) (ht : (pc : Int) + off = (tgt : Int)) (kt : x = y → jj_J X Q k n tgt ls st τ I L r) (kf : ¬ x = y → jj_J X Q k n (pc + 3) ls st τ I L r) : jj_J X Q k n pc ls (jI y :: jI x :: st) τ I L r := by
  obtain ⟨⟨l, D, aC, ad, A, sa⟩, p, e, R, s, m, args, below, meth, c⟩ := X
  intro H locs la hl hV hS
  exact lv_icmp_eq hX.1 hX.2.1 hdg ht (fun q => kt q H locs la hl hV hS) (fun q => kf q H locs la hl hV hS)
theorem jj_if_ne (hX : jj_ok X cc own nL fr lo mc ms) {x : Int32} {off : Int} (tgt : Nat) (hdg : decode cc pc = .ok (.ifCond .ne off, 3)) (ht : (pc : Int) + off = (tgt : Int)) (kt : ¬ x = 0 → jj_J X Q k n tgt ls st τ I L r) (kf : x = 0 → jj_J X Q k n (pc + 3) ls st τ I L r) : jj_J X Q k n pc ls (jI x :: st) τ I L r := by
  obtain ⟨⟨l, D, aC, ad, A, sa⟩, p, e, R, s, m, args, below, meth, c⟩ := X
  intro H locs la hl hV hS
  exact lv_if_ne hX.1 hX.2.1 hdg ht (fun q => kt q H locs la hl hV hS) (fun q => kf q H locs la hl hV hS)
theorem jj_icmp_ne (hX : jj_ok X cc own nL fr lo mc ms) {x y : Int32} {off : Int} (tgt : Nat) (hdg : decode cc pc = .ok (.if_icmp .ne off, 3)) (ht : (pc : Int) + off = (tgt : Int)) (kt : ¬ x = y → jj_J X Q k n tgt ls st τ I L r) (kf : x = y → jj_J X Q k n (pc + 3) ls st τ I L r) : jj_J X Q k n pc ls (jI y :: jI x :: st) τ I L r := by
  obtain ⟨⟨l, D, aC, ad, A, sa⟩, p, e, R, s, m, args, below, meth, c⟩ := X
  intro H locs la hl hV hS
  exact lv_icmp_ne hX.1 hX.2.1 hdg ht (fun q => kt q H locs la hl hV hS) (fun q => kf q H locs la hl hV hS)
theorem jj_if_lt (hX : jj_ok X cc own nL fr lo mc ms) {x : Int32} {off : Int} (tgt : Nat) (hdg : decode cc pc = .ok (.ifCond .lt off, 3)) (ht : (pc : Int) + off = (tgt : Int)) (kt : x < 0 → jj_J X Q k n tgt ls st τ I L r) (kf : ¬ x < 0 → jj_J X Q k n (pc + 3) ls st τ I L r) : jj_J X Q k n pc ls (jI x :: st) τ I L r := by
  obtain ⟨⟨l, D, aC, ad, A, sa⟩, p, e, R, s, m, args, below, meth, c⟩ := X
  intro H locs la hl hV hS
  exact lv_if_lt hX.1 hX.2.1 hdg ht (fun q => kt q H locs la hl hV hS) (fun q => kf q H locs la hl hV hS)
theorem jj_icmp_lt (hX : jj_ok X cc own nL fr lo mc ms) {x y : Int32} {off : Int} (tgt : Nat) (hdg : decode cc pc = .ok (.if_icmp .lt off, 3)) (ht : (pc : Int) + off = (tgt : Int)) (kt : x < y → jj_J X Q k n tgt ls st τ I L r) (kf : ¬ x < y → jj_J X Q k n (pc + 3) ls st τ I L r) : jj_J X Q k n pc ls (jI y :: jI x :: st) τ I L r := by
  obtain ⟨⟨l, D, aC, ad, A, sa⟩, p, e, R, s, m, args, below, meth, c⟩ := X
  intro H locs la hl hV hS
  exact lv_icmp_lt hX.1 hX.2.1 hdg ht (fun q => kt q H locs la hl hV hS) (fun q => kf q H locs la hl hV hS)
theorem jj_if_ge (hX : jj_ok X cc own nL fr lo mc ms) {x : Int32} {off : Int} (tgt : Nat) (hdg : decode cc pc = .ok (.ifCond .ge off, 3)) (ht : (pc : Int) + off = (tgt : Int)) (kt : 0 ≤ x → jj_J X Q k n tgt ls st τ I L r) (kf : ¬ 0 ≤ x → jj_J X Q k n (pc + 3) ls st τ I L r) : jj_J X Q k n pc ls (jI x :: st) τ I L r := by
  obtain ⟨⟨l, D, aC, ad, A, sa⟩, p, e, R, s, m, args, below, meth, c⟩ := X
  intro H locs la hl hV hS
  exact lv_if_ge hX.1 hX.2.1 hdg ht (fun q => kt q H locs la hl hV hS) (fun q => kf q H locs la hl hV hS)
theorem jj_icmp_ge (hX : jj_ok X cc own nL fr lo mc ms) {x y : Int32} {off : Int} (tgt : Nat) (hdg : decode cc pc = .ok (.if_icmp .ge off, 3)) (ht : (pc : Int) + off = (tgt : Int)) (kt : y ≤ x → jj_J X Q k n tgt ls st τ I L r) (kf : ¬ y ≤ x → jj_J X Q k n (pc + 3) ls st τ I L r) : jj_J X Q k n pc ls (jI y :: jI x :: st) τ I L r := by
  obtain ⟨⟨l, D, aC, ad, A, sa⟩, p, e, R, s, m, args, below, meth, c⟩ := X
  intro H locs la hl hV hS
  exact lv_icmp_ge hX.1 hX.2.1 hdg ht (fun q => kt q H locs la hl hV hS) (fun q => kf q H locs la hl hV hS)
theorem jj_if_gt (hX : jj_ok X cc own nL fr lo mc ms) {x : Int32} {off : Int} (tgt : Nat) (hdg : decode cc pc = .ok (.ifCond .gt off, 3)) (ht : (pc : Int) + off = (tgt : Int)) (kt : 0 < x → jj_J X Q k n tgt ls st τ I L r) (kf : ¬ 0 < x → jj_J X Q k n (pc + 3) ls st τ I L r) : jj_J X Q k n pc ls (jI x :: st) τ I L r := by
  obtain ⟨⟨l, D, aC, ad, A, sa⟩, p, e, R, s, m, args, below, meth, c⟩ := X
  intro H locs la hl hV hS
  exact lv_if_gt hX.1 hX.2.1 hdg ht (fun q => kt q H locs la hl hV hS) (fun q => kf q H locs la hl hV hS)
theorem jj_icmp_gt (hX : jj_ok X cc own nL fr lo mc ms) {x y : Int32} {off : Int} (tgt : Nat) (hdg : decode cc pc = .ok (.if_icmp .gt off, 3)) (ht : (pc : Int) + off = (tgt : Int)) (kt : y < x → jj_J X Q k n tgt ls st τ I L r) (kf : ¬ y < x → jj_J X Q k n (pc + 3) ls st τ I L r) : jj_J X Q k n pc ls (jI y :: jI x :: st) τ I L r := by
  obtain ⟨⟨l, D, aC, ad, A, sa⟩, p, e, R, s, m, args, below, meth, c⟩ := X
  intro H locs la hl hV hS
  exact lv_icmp_gt hX.1 hX.2.1 hdg ht (fun q => kt q H locs la hl hV hS) (fun q => kf q H locs la hl hV hS)
theorem jj_if_le (hX : jj_ok X cc own nL fr lo mc ms) {x : Int32} {off : Int} (tgt : Nat) (hdg : decode cc pc = .ok (.ifCond .le off, 3)) (ht : (pc : Int) + off = (tgt : Int)) (kt : x ≤ 0 → jj_J X Q k n tgt ls st τ I L r) (kf : ¬ x ≤ 0 → jj_J X Q k n (pc + 3) ls st τ I L r) : jj_J X Q k n pc ls (jI x :: st) τ I L r := by
  obtain ⟨⟨l, D, aC, ad, A, sa⟩, p, e, R, s, m, args, below, meth, c⟩ := X
  intro H locs la hl hV hS
  exact lv_if_le hX.1 hX.2.1 hdg ht (fun q => kt q H locs la hl hV hS) (fun q => kf q H locs la hl hV hS)
theorem jj_icmp_le (hX : jj_ok X cc own nL fr lo mc ms) {x y : Int32} {off : Int} (tgt : Nat) (hdg : decode cc pc = .ok (.if_icmp .le off, 3)) (ht : (pc : Int) + off = (tgt : Int)) (kt : x ≤ y → jj_J X Q k n tgt ls st τ I L r) (kf : ¬ x ≤ y → jj_J X Q k n (pc + 3) ls st τ I L r) : jj_J X Q k n pc ls (jI y :: jI x :: st) τ I L r := by
  obtain ⟨⟨l, D, aC, ad, A, sa⟩, p, e, R, s, m, args, below, meth, c⟩ := X
  intro H locs la hl hV hS
  exact lv_icmp_le hX.1 hX.2.1 hdg ht (fun q => kt q H locs la hl hV hS) (fun q => kf q H locs la hl hV hS)
theorem jj_goto (hX : jj_ok X cc own nL fr lo mc ms) {off : Int} (tgt : Nat) (hdg : decode cc pc = .ok (.goto off, 3)) (ht : (pc : Int) + off = (tgt : Int)) (kk : jj_J X Q k n tgt ls st τ I L r) : jj_J X Q k n pc ls st τ I L r := by
  obtain ⟨⟨l, D, aC, ad, A, sa⟩, p, e, R, s, m, args, below, meth, c⟩ := X
  intro H locs la hl hV hS
  exact lv_goto hX.1 hX.2.1 hdg ht (kk H locs la hl hV hS)
theorem jj_tabOut (hX : jj_ok X cc own nL fr lo mc ms) {dflt lw hi : Int} {offs : Array Int} {len : Nat} {x : Int32} (tgt : Nat) (hdg : decode cc pc = .ok (.tableswitch dflt lw hi offs, len)) (h : x.toInt < lw ∨ hi < x.toInt) (ht : (pc : Int) + dflt = (tgt : Int)) (kk : jj_J X Q k n tgt ls st τ I L r) : jj_J X Q k n pc ls (jI x :: st) τ I L r := by
  obtain ⟨⟨l, D, aC, ad, A, sa⟩, p, e, R, s, m, args, below, meth, c⟩ := X
  intro H locs la hl hV hS
  exact lv_tableOut hX.1 hX.2.1 hdg h ht (kk H locs la hl hV hS)
theorem jj_tabIn (hX : jj_ok X cc own nL fr lo mc ms) {dflt lw hi off : Int} {offs : Array Int} {len : Nat} {x : Int32} (tgt : Nat) (hdg : decode cc pc = .ok (.tableswitch dflt lw hi offs, len)) (h1 : ¬ x.toInt < lw) (h2 : ¬ hi < x.toInt) (ho : offs[(x.toInt - lw).toNat]? = some off) (ht : (pc : Int) + off = (tgt : Int)) (kk : jj_J X Q k n tgt ls st τ I L r) : jj_J X Q k n pc ls (jI x :: st) τ I L r := by
  obtain ⟨⟨l, D, aC, ad, A, sa⟩, p, e, R, s, m, args, below, meth, c⟩ := X
  intro H locs la hl hV hS
  exact lv_tableIn hX.1 hX.2.1 hdg h1 h2 ho ht (kk H locs la hl hV hS)
theorem jj_ifnull (hX : jj_ok X cc own nL fr lo mc ms) {x : Option Nat} {off : Int} (tgt : Nat) (hdg : decode cc pc = .ok (.ifnull off, 3)) (ht : (pc : Int) + off = (tgt : Int)) (kt : x = none → jj_J X Q k n tgt ls st τ I L r) (kf : ∀ a, x = some a → jj_J X Q k n (pc + 3) ls st τ I L r) : jj_J X Q k n pc ls (jR x :: st) τ I L r := by
  obtain ⟨⟨l, D, aC, ad, A, sa⟩, p, e, R, s, m, args, below, meth, c⟩ := X
  intro H locs la hl hV hS
  cases x with
  | none => exact lv_ifnullN hX.1 hX.2.1 hdg ht (kt rfl H locs la hl hV hS)
  | some x => exact lv_ifnull hX.1 hX.2.1 hdg (kf x rfl H locs la hl hV hS)
theorem jj_ifnonnull (hX : jj_ok X cc own nL fr lo mc ms) {x : Option Nat} {off : Int} (tgt : Nat) (hdg : decode cc pc = .ok (.ifnonnull off, 3)) (ht : (pc : Int) + off = (tgt : Int)) (kt : ∀ a, x = some a → jj_J X Q k n tgt ls st τ I L r) (kf : x = none → jj_J X Q k n (pc + 3) ls st τ I L r) : jj_J X Q k n pc ls (jR x :: st) τ I L r := by
  obtain ⟨⟨l, D, aC, ad, A, sa⟩, p, e, R, s, m, args, below, meth, c⟩ := X
  intro H locs la hl hV hS
  cases x with
  | none => exact lv_ifnonnullN hX.1 hX.2.1 hdg (kf rfl H locs la hl hV hS)
  | some x => exact lv_ifnonnull hX.1 hX.2.1 hdg ht (kt x rfl H locs la hl hV hS)
theorem jj_mapid (x : Option Nat) : x.map (fun a => a) = x := by cases x <;> rfl
theorem jj_acmp_eq (hX : jj_ok X cc own nL fr lo mc ms) {x y : Option Nat} {off : Int} (tgt : Nat) (hI : ∀ a b, x = some a → y = some b → X.1.2.2.2.1 a = X.1.2.2.2.1 b → a = b) (hdg : decode cc pc = .ok (.if_acmp .eq off, 3)) (ht : (pc : Int) + off = (tgt : Int)) (kt : x = y → jj_J X Q k n tgt ls st τ I L r) (kf : ¬ x = y → jj_J X Q k n (pc + 3) ls st τ I L r) : jj_J X Q k n pc ls (jR y :: jR x :: st) τ I L r := by
  obtain ⟨⟨l, D, aC, ad, A, sa⟩, p, e, R, s, m, args, below, meth, c⟩ := X
  intro H locs la hl hV hS
  have hmm : x.map ad = y.map ad ↔ x = y := by
    cases x with
    | none => cases y with
      | none => exact ⟨fun _ => rfl, fun _ => rfl⟩
      | some b => exact ⟨fun q => (by cases q), fun q => (by cases q)⟩
    | some a => cases y with
      | none => exact ⟨fun q => (by cases q), fun q => (by cases q)⟩
      | some b => exact ⟨fun q => congrArg some (hI a b rfl rfl (Option.some.inj q)), fun q => by rw [q]⟩
  refine lv_acmp_eq (rx := x.map ad) (ry := y.map ad) hX.1 hX.2.1 hdg ht (fun q => kt ?_ H locs la hl hV hS) (fun q => kf ?_ H locs la hl hV hS)
  · rw [hmm] at q; exact q
  · rw [hmm] at q; exact q
theorem jj_acmp_ne (hX : jj_ok X cc own nL fr lo mc ms) {x y : Option Nat} {off : Int} (tgt : Nat) (hI : ∀ a b, x = some a → y = some b → X.1.2.2.2.1 a = X.1.2.2.2.1 b → a = b) (hdg : decode cc pc = .ok (.if_acmp .ne off, 3)) (ht : (pc : Int) + off = (tgt : Int)) (kt : ¬ x = y → jj_J X Q k n tgt ls st τ I L r) (kf : x = y → jj_J X Q k n (pc + 3) ls st τ I L r) : jj_J X Q k n pc ls (jR y :: jR x :: st) τ I L r := by
  obtain ⟨⟨l, D, aC, ad, A, sa⟩, p, e, R, s, m, args, below, meth, c⟩ := X
  intro H locs la hl hV hS
  have hmm : x.map ad = y.map ad ↔ x = y := by
    cases x with
    | none => cases y with
      | none => exact ⟨fun _ => rfl, fun _ => rfl⟩
      | some b => exact ⟨fun q => (by cases q), fun q => (by cases q)⟩
    | some a => cases y with
      | none => exact ⟨fun q => (by cases q), fun q => (by cases q)⟩
      | some b => exact ⟨fun q => congrArg some (hI a b rfl rfl (Option.some.inj q)), fun q => by rw [q]⟩
  refine lv_acmp_ne (rx := x.map ad) (ry := y.map ad) hX.1 hX.2.1 hdg ht (fun q => kt ?_ H locs la hl hV hS) (fun q => kf ?_ H locs la hl hV hS)
  · rw [hmm] at q; exact q
  · rw [hmm] at q; exact q
theorem jj_ls (ls' : List (Nat × jj_v)) (h : jj_sub ls' ls) (kk : jj_J X Q k n pc ls' st τ I L r) : jj_J X Q k n pc ls st τ I L r := by
  obtain ⟨⟨l, D, aC, ad, A, sa⟩, p, e, R, s, m, args, below, meth, c⟩ := X
  intro H locs la hl hV hS
  exact kk H locs la (jj_msub hl h) hV hS
theorem jj_widen {k' n' : Nat} (h1 : k ≤ k') (h2 : n ≤ n') (kk : jj_J X Q k' n' pc ls st τ I L r) : jj_J X Q k n pc ls st τ I L r := by
  obtain ⟨⟨l, D, aC, ad, A, sa⟩, p, e, R, s, m, args, below, meth, c⟩ := X
  intro H locs la hl hV hS
  exact W.widen h1 h2 (kk H locs la hl hV hS)
end JR
