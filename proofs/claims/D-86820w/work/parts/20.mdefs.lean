set_option maxRecDepth 100000
/-! the Model: its memory (0: the object, k + 1: the array of its field k) -/
def jm_T : jj_T := fun id => match id with
  | 0 => some (.inl 25)
  | 2 => some (.inr (0, 8))
  | 3 => some (.inr (0, 320))
  | 4 => some (.inr (0, 320))
  | 6 => some (.inr (0, 4))
  | 7 => some (.inr (0, 48))
  | 8 => some (.inr (0, 48))
  | 9 => some (.inr (0, 16))
  | 10 => some (.inr (2, 12))
  | 13 => some (.inr (0, 85))
  | 14 => some (.inr (0, 85))
  | 15 => some (.inr (0, 85))
  | 16 => some (.inr (0, 85))
  | 17 => some (.inr (0, 85))
  | 18 => some (.inr (0, 85))
  | 19 => some (.inr (0, 85))
  | 20 => some (.inr (0, 85))
  | 21 => some (.inr (0, 85))
  | 22 => some (.inr (0, 85))
  | 23 => some (.inr (0, 85))
  | 24 => some (.inr (2, 85))
  | 25 => some (.inr (1, 85))
  | 26 => some (.inr (2, 85))
  | 27 => some (.inr (1, 85))
  | 28 => some (.inr (2, 680))
  | 29 => some (.inr (1, 680))
  | 30 => some (.inr (2, 1020))
  | 31 => some (.inr (1, 1020))
  | 32 => some (.inr (0, 85))
  | 33 => some (.inr (2, 5100))
  | 34 => some (.inr (0, 85))
  | 38 => some (.inr (0, 169))
  | 39 => some (.inr (1, 2704))
  | 40 => some (.inr (2, 2704))
  | 41 => some (.inr (1, 169))
  | _ => none
def jm_R : jj_R := fun a f => if a = 0 then some (f + 1) else none
abbrev jm : Type := jj_I × jj_L
def m_u (σ : jm) (k j : Nat) (v : Int32) : jm := (jj_u σ.1 k j v, σ.2)
def m_v (σ : jm) (k j : Nat) (v : Int64) : jm := (σ.1, jj_u σ.2 k j v)
/-- a contract of the Model's: the object is 0, no cell is made -/
def jm_M (G : jj_G) (y : MethodName) (c : ByteArray) (nL : Nat) (ret : Option FieldType) (fr lo : Nat) (As : List jj_v) (σ σ' : jm) (v : Option jj_v) : Prop :=
  jj_M G y (ws_ y c nL ret) { frames := fr, cells := 0, slots := 0, locals := lo } (jR (some 0) :: As) false jm_T σ.1 σ.2 jm_R (jj_eq v jm_T σ'.1 σ'.2 jm_R) jj_no
/-- .. that looks at no memory -/
def jm_S (G : jj_G) (y : MethodName) (c : ByteArray) (nL : Nat) (ret : Option FieldType) (fr lo : Nat) (As : List jj_v) (v : Option jj_v) : Prop :=
  ∀ (τ : jj_T) (I : jj_I) (L : jj_L) (r : jj_R), jj_M G y (ws_ y c nL ret) { frames := fr, cells := 0, slots := 0, locals := lo } As false τ I L r (jj_eq v τ I L r) jj_no
theorem ix_inc {x : Int32} {a : Nat} (hx : x = nI a) : x + Int32.ofInt 1 = nI (a + 1) := by subst hx; exact nI_1 a

/-- a number that isn't negative, at most n -/
def jb (x : Int32) (n : Nat) : Prop := x = nI (nv x) ∧ nv x ≤ n
def j01 (x : Int32) : Prop := x = 0 ∨ x = 1
def m_rt (ops : Nat → Int32) : Nat → Nat → Nat → Bool
  | 0, _, d => decide (d = 1)
  | n + 1, k, d => if 4 ≤ ops k then (if 2 ≤ d then m_rt ops n (k + 1) (d - 1) else false) else m_rt ops n (k + 1) (d + 1)
def m_right (o : Nat) (σ : jm) : Bool := m_rt (fun k => σ.1 7 (12 * o + k)) (nv (σ.1 6 o)) 0 0
def m_two (op : Int32) (x y : Int64) : Int64 := if op = 4 then x + y else if op = 5 then x - y else if op = 6 then (if y ≤ x then y else x) else if op = 7 then (if x ≤ y then y else x) else if op = 8 then x &&& y else if op = 9 then x ||| y else x ^^^ y
def m_pick (op : Int32) (b o t : Int64) (a : Int32) : Int64 := if op = 0 then b else if op = 1 then o else if op = 2 then t else a.toInt64
def m_tl (q : Nat) (ops as9 : Nat → Int32) (b o t : Int64) : Nat → Nat → Nat → jj_L → jj_L
  | 0, _, _, L => L
  | n + 1, k, d, L => if 4 ≤ ops k then m_tl q ops as9 b o t n (k + 1) (d - 1) (jj_u L q (d - 1 - 1) (m_two (ops k) (L q (d - 1 - 1)) (L q (d - 1)))) else m_tl q ops as9 b o t n (k + 1) (d + 1) (jj_u L q d (m_pick (ops k) b o t (as9 k)))
def m_told (o : Nat) (b u t : Int64) (σ : jm) : jm := (σ.1, m_tl 10 (fun k => σ.1 7 (12 * o + k)) (fun k => σ.1 8 (12 * o + k)) b u t (nv (σ.1 6 o)) 0 0 σ.2)
def m_push (t : Nat) (v : Int64) (h : Int32) (σ : jm) : jm := m_u (m_u (m_v σ 30 (12 * t + nv (σ.1 32 t)) v) 31 (12 * t + nv (σ.1 32 t)) h) 32 t (σ.1 32 t + 1)
def m_fails (t : Nat) (w : Int32) (σ : jm) : jm := m_u (m_u σ 15 t 3) 16 t w
def m_ends (t : Nat) (v : Int64) (h : Int32) (σ : jm) : jm := m_u (m_v (m_u (m_u σ 15 t 2) 25 t 1) 26 t v) 27 t h
def m_eb (t : Nat) (σ : jm) : jm := if σ.1 15 t = 0 then (if σ.1 14 t < σ.1 2 (nv (σ.1 13 t)) then σ else m_ends t 0 0 σ) else σ
def m_cl (S : Nat) : Nat → Nat → jm → jm
  | 0, _, σ => σ
  | n + 1, c, σ => m_cl S n (c + 1) (m_u σ 39 (16 * S + c) 0)
def m_ns (b : Int32) (σ : jm) : jm := m_u (m_cl (nv (σ.1 0 36)) 16 0 (m_u σ 38 (nv (σ.1 0 36)) b)) 0 36 (σ.1 0 36 + 1)
def m_rd (c : Nat) (σ : jm) : Nat → Int32 → Int64
  | 0, _ => 0
  | n + 1, s => if s = -4 then 0 else if σ.1 39 (16 * nv s + c) = 0 then m_rd c σ n (σ.1 38 (nv s)) else σ.2 40 (16 * nv s + c)
def m_write (t c : Nat) (v : Int64) (σ : jm) : jm := m_v (m_u σ 39 (16 * nv (σ.1 22 t) + c) 1) 40 (16 * nv (σ.1 22 t) + c) v
def m_sl (T : Nat) (v : Int64) (h : Int32) : Nat → Nat → jm → jm
  | 0, _, σ => σ
  | n + 1, k, σ => m_sl T v h n (k + 1) (m_u (m_v σ 28 (8 * T + k) (if k = 0 then v else 0)) 29 (8 * T + k) (if k = 0 then h else 0))
def m_n1 (T : Nat) (ob : Int32) (σ : jm) : jm := m_u (m_u (m_u (m_u (m_u (m_u (m_u σ 0 11 (σ.1 0 11 + 1)) 13 T ob) 14 T 0) 15 T 0) 16 T 0) 17 T 0) 18 T 0
def m_n2 (T : Nat) (fr lv nt on ab : Int32) (σ : jm) : jm := m_u (m_v (m_u (m_v (m_u (m_u (m_u (m_u (m_u σ 19 T lv) 20 T fr) 21 T nt) 22 T on) 23 T ab) 24 T 17) 25 T 0) 26 T 0) 27 T 0
def m_nt (ob fr : Int32) (v : Int64) (h on ab : Int32) (σ : jm) : jm :=
  m_eb (nv (σ.1 0 11)) (m_u (m_u (m_sl (nv (σ.1 0 11)) v h 8 0 (m_n2 (nv (σ.1 0 11)) fr (if fr = -4 then 0 else σ.1 19 (nv fr) + 1) (if fr = -4 then 0 else σ.1 18 (nv fr)) on ab (m_n1 (nv (σ.1 0 11)) ob σ))) 32 (nv (σ.1 0 11)) 0) 34 (nv (σ.1 0 11)) 0)
def m_waits (t : Nat) (σ : jm) : Int32 := if σ.1 15 t = 0 then (if σ.1 3 (40 * nv (σ.1 13 t) + nv (σ.1 14 t)) = 18 then (if σ.1 32 t = 0 then -4 else if σ.1 17 t < 200 then
  (if σ.1 31 (12 * t + nv (σ.1 32 t) - 1) = 0 then -4 else if σ.1 15 (nv (σ.2 30 (12 * t + nv (σ.1 32 t) - 1)).toInt32) = 0 then (σ.2 30 (12 * t + nv (σ.1 32 t) - 1)).toInt32 else -4) else -4) else -4) else -4
def m_stand (t : Nat) (σ : jm) : Int32 := if σ.1 15 t = 0 then (if m_waits t σ = -4 then 0 else 1) else σ.1 15 t
def m_tk (j : Nat) : Nat := match j with
  | 4 => 2 | 5 => 2 | 6 => 2 | 7 => 2 | 8 => 2 | 9 => 2 | 10 => 2 | 11 => 2
  | 2 => 1 | 3 => 1 | 13 => 1 | 15 => 1 | 16 => 1 | 17 => 1 | 18 => 1 | 19 => 1 | 20 => 1 | 21 => 1
  | _ => 0
def m_any (j : Nat) : Bool := match j with
  | 15 => true | 16 => true | 17 => true | 20 => true
  | _ => false
def m_b (x : Int32) : Int32 := if x = 0 then 0 else 1
def m_fault (t j : Nat) (a : Int32) (x y : Int64) (σ : jm) : Int32 := match j with
  | 3 => if 0 ≤ x ∧ x ≤ 15 then 0 else 9
  | 4 => if 0 ≤ x ∧ x ≤ 15 then 0 else 9
  | 8 => if y = 0 then 1 else 0
  | 17 => if a < σ.1 0 0 then (if σ.1 19 t = 3 then 4 else if σ.1 18 t = 3 then 5 else 0) else 10
  | 0 => if σ.1 32 t = 12 then 7 else 0
  | 1 => if σ.1 32 t = 12 then 7 else 0
  | 14 => if σ.1 32 t = 12 then 7 else 0
  | 21 => 100 + (x &&& 63).toInt32
  | _ => 0
def m_tell (t : Nat) (v : Int64) (σ : jm) : jm := if 60 ≤ σ.1 34 t then σ else m_u (m_v σ 33 (60 * t + nv (σ.1 34 t)) v) 34 t (σ.1 34 t + 1)
def m_f1 (t : Nat) (σ : jm) : jm := m_u (m_ns (σ.1 22 t) (m_u σ 18 t (σ.1 18 t + 1))) 22 t (σ.1 0 36)
def m_fork (t : Nat) (ob : Int32) (x : Int64) (h : Int32) (σ : jm) : jm :=
  m_push t (σ.1 0 11).toInt64 1 (m_nt ob (nI t) x h (σ.1 0 36 + 1) (σ.1 22 t) (m_ns (σ.1 22 t) (m_f1 t σ)))
def m_wro (c : Nat) (rt : Int32) (σ : jm) : Nat → Int32 → Int32 → Int32
  | 0, _, w => w
  | n + 1, s, w => if s = rt then w else m_wro c rt σ n (σ.1 38 (nv s)) (if w = 0 then (if σ.1 39 (16 * nv s + c) = 0 then 0 else 1) else 1)
def m_mof (j : Nat) (b o t : Int64) (σ : jm) : Int64 × jm := match j with
  | 0 => (t, σ)
  | 1 => (o + t - b, σ)
  | 2 => ((o ||| (t &&& (b ^^^ -1))) &&& ((b &&& (t ^^^ -1)) ^^^ -1), σ)
  | j + 3 => ((m_told j b o t σ).2 10 0, m_told j b o t σ)
def m_mc (σ : jm) : jm := m_u σ 0 35 (σ.1 0 35 + 1)
def m_jq (t o c : Nat) (σ : jm) : Int64 × jm := m_mof (nv (σ.1 9 c)) (m_rd c σ 170 (σ.1 23 o)) (m_rd c σ 170 (σ.1 22 t)) (m_rd c σ 170 (σ.1 22 o)) σ
def m_jc (t o c : Nat) (σ : jm) : jm := if m_wro c (σ.1 23 o) σ 170 (σ.1 22 o) 0 = 0 then σ else m_mc (m_write t c (m_jq t o c σ).1 (m_jq t o c σ).2)
def m_jl (t o : Nat) : Nat → Nat → jm → jm
  | 0, _, σ => σ
  | n + 1, c, σ => m_jl t o n (c + 1) (m_jc t o c σ)
def m_tls (t o : Nat) : Nat → Nat → jm → jm
  | 0, _, σ => σ
  | n + 1, k, σ => m_tls t o n (k + 1) (m_tell t (σ.2 33 (60 * o + k)) σ)
def m_j1 (t o : Nat) (σ : jm) : jm := m_tls t o (nv (σ.1 34 o)) 0 (m_v (m_u σ 15 o 4) 24 t (31 * σ.2 24 t + σ.2 24 o))
def m_j2 (t o : Nat) (σ : jm) : jm := m_push t ((m_jl t o 16 0 σ).2 26 o) ((m_jl t o 16 0 σ).1 27 o) (m_jl t o 16 0 σ)
def m_join (t o : Nat) (σ : jm) : jm := if σ.1 15 o = 3 then m_fails t ((m_j1 t o σ).1 16 o) (m_j1 t o σ) else m_j2 t o (m_j1 t o σ)
def m_d14 (t a : Nat) (σ : jm) : jm := if σ.1 29 (8 * t + a) = 0 then m_push t (σ.2 28 (8 * t + a)) (σ.1 29 (8 * t + a)) σ else m_u (m_v (m_push t (σ.2 28 (8 * t + a)) (σ.1 29 (8 * t + a)) σ) 28 (8 * t + a) 0) 29 (8 * t + a) 0
def m_do (t : Nat) (op : Nat) (a : Int32) (x : Int64) (xh : Int32) (y : Int64) (σ : jm) : jm := match op with
  | 0 => m_push t a.toInt64 0 σ
  | 1 => m_push t (m_rd (nv a) σ 170 (σ.1 22 t)) 0 σ
  | 2 => m_write t (nv a) x σ
  | 3 => m_push t (m_rd (nv x.toInt32) σ 170 (σ.1 22 t)) 0 σ
  | 4 => m_write t (nv x.toInt32) y σ
  | 5 => m_push t (x + y) 0 σ
  | 6 => m_push t (x - y) 0 σ
  | 7 => m_push t (x * y) 0 σ
  | 8 => m_push t (x / y) 0 σ
  | 9 => m_push t (if y ≤ x then 0 else 1) 0 σ
  | 10 => m_push t (x &&& y) 0 σ
  | 11 => m_push t (x ||| y) 0 σ
  | 14 => m_d14 t (nv a) σ
  | 15 => m_u (m_v σ 28 (8 * t + nv a) x) 29 (8 * t + nv a) xh
  | 17 => m_fork t a x xh σ
  | 18 => m_join t (nv x.toInt32) σ
  | 19 => m_tell t x σ
  | 20 => m_ends t x xh σ
  | _ => σ
def m_next (t : Nat) (op : Nat) (a : Int32) (x : Int64) (σ : jm) : Int32 := if op = 12 then a else if op = 13 then (if x = 0 then a else σ.1 14 t + 1) else σ.1 14 t + 1
def m_dn (t : Nat) (nx : Int32) (σ : jm) : jm := if σ.1 15 t = 3 then σ else m_eb t (m_u σ 14 t nx)
def m_does (t j : Nat) (a : Int32) (x : Int64) (xh : Int32) (y : Int64) (σ : jm) : jm := m_dn t (m_next t j a x σ) (m_do t j a x xh y σ)
def m_op (t : Nat) (σ : jm) : Int32 := σ.1 3 (40 * nv (σ.1 13 t) + nv (σ.1 14 t))
def m_oa (t : Nat) (σ : jm) : Int32 := σ.1 4 (40 * nv (σ.1 13 t) + nv (σ.1 14 t))
def m_s1 (t : Nat) (op : Int32) (σ : jm) : jm := m_v (m_u (m_u σ 17 t (σ.1 17 t + 1)) 0 34 (σ.1 0 34 + 1)) 24 t (31 * σ.2 24 t + op.toInt64)
def m_s2 (t : Nat) (n : Int32) (σ : jm) : jm := m_u σ 32 t (σ.1 32 t - n)
def m_lo (t n : Nat) (σ : jm) : Nat := 12 * t + nv (σ.1 32 t) - n
/-- what a step does when the pile holds enough: n taken, x below y -/
def m_s3 (t j : Nat) (a n : Int32) (x : Int64) (xh : Int32) (y : Int64) (σ : jm) : jm :=
  if m_fault t j a x y (m_s2 t n σ) ≤ 0 then m_does t j a x xh y (m_s2 t n σ) else m_fails t (m_fault t j a x y (m_s2 t n σ)) (m_s2 t n σ)
def m_s4 (t j : Nat) (a : Int32) (σ : jm) : jm := match m_tk j with
  | 2 => if σ.1 31 (m_lo t 2 σ) = 0 then (if σ.1 31 (m_lo t 2 σ + 1) = 0 then m_s3 t j a 2 (σ.2 30 (m_lo t 2 σ)) 0 (σ.2 30 (m_lo t 2 σ + 1)) σ else m_fails t 2 (m_s2 t 2 σ)) else m_fails t 2 (m_s2 t 2 σ)
  | 1 => if σ.1 31 (m_lo t 1 σ) = 0 then (if m_any j then m_s3 t j a 1 (σ.2 30 (m_lo t 1 σ)) 0 0 σ else if j = 18 then m_fails t 2 (m_s2 t 1 σ) else m_s3 t j a 1 (σ.2 30 (m_lo t 1 σ)) 0 0 σ)
    else (if m_any j then m_s3 t j a 1 (σ.2 30 (m_lo t 1 σ)) 1 0 σ else if j = 18 then m_s3 t j a 1 (σ.2 30 (m_lo t 1 σ)) 1 0 σ else m_fails t 2 (m_s2 t 1 σ))
  | _ => m_s3 t j a 0 0 0 0 σ
def m_s5 (t j : Nat) (a : Int32) (σ : jm) : jm := if nI (m_tk j) ≤ σ.1 32 t then m_s4 t j a σ else m_fails t 8 σ
def m_step (t : Nat) (σ : jm) : jm :=
  if (m_s1 t (m_op t σ) σ).1 17 t ≤ 200 then m_s5 t (nv (m_op t σ)) (m_oa t σ) (m_s1 t (m_op t σ) σ) else m_fails t 6 (m_s1 t (m_op t σ) σ)
/-- what the pile holds for an op -/
def m_ok1 (t j : Nat) (x : Int64) (xh : Int32) (y : Int64) (σ : jm) : Prop := match m_tk j with
  | 2 => x = σ.2 30 (m_lo t 2 σ) ∧ xh = 0 ∧ y = σ.2 30 (m_lo t 2 σ + 1) ∧ 2 ≤ nv (σ.1 32 t) ∧ σ.1 31 (m_lo t 2 σ) = 0 ∧ σ.1 31 (m_lo t 2 σ + 1) = 0
  | 1 => x = σ.2 30 (m_lo t 1 σ) ∧ y = 0 ∧ 1 ≤ nv (σ.1 32 t) ∧ (xh = 0 ∧ σ.1 31 (m_lo t 1 σ) = 0 ∧ j ≠ 18 ∨ xh = 1 ∧ ¬ σ.1 31 (m_lo t 1 σ) = 0 ∧ (m_any j = true ∨ j = 18))
  | _ => x = 0 ∧ xh = 0 ∧ y = 0
theorem jj_kif {c : Prop} [Decidable c] {a b : Int32} {τ : jj_T} {I : jj_I} {L : jj_L} {r : jj_R} {Q : Option jj_v → jj_T → jj_I → jj_L → jj_R → Prop} (h1 : c → Q (some (jI a)) τ I L r) (h2 : ¬ c → Q (some (jI b)) τ I L r) : ∀ (v' : Option jj_v) (τ' : jj_T) (I' : jj_I) (L' : jj_L) (r' : jj_R), jj_eq (some (jI (if c then a else b))) τ I L r v' τ' I' L' r' → Q v' τ' I' L' r' := by
  rintro v' τ' I' L' r' ⟨rfl, rfl, rfl, rfl, rfl⟩
  by_cases h : c
  · rw [if_pos h]; exact h1 h
  · rw [if_neg h]; exact h2 h
theorem in_x (x : Int32) : x.toInt64.toInt = x.toInt := by simp
theorem in_nv {x : Int32} {n : Nat} (h0 : 0 ≤ x.toInt) (h1 : x.toInt < n) : x = nI (nv x) ∧ nv x < n := by
  have e : nv x = x.toInt.toNat := rfl
  have e2 : (nv x : Int) = x.toInt := by rw [e]; omega
  refine ⟨?_, by omega⟩
  apply Int32.toInt_inj.mp
  have h3 : x.toInt < 2 ^ 31 := Int32.toInt_lt x
  rw [nI_toInt (by omega), e2]
theorem in_b {x b : Int32} {B : Nat} (hb : b = nI B) (hB : B < 2147483648) (h : (0 : Int64) ≤ x.toInt64 ∧ x.toInt64 ≤ (b - 1).toInt64) : x = nI (nv x) ∧ nv x < B := by
  obtain ⟨h1, h2⟩ := h
  rw [Int64.le_iff_toInt_le, in_x] at h1 h2
  rw [in_x] at h2
  have e : (b - 1).toInt = (B : Int) - 1 := by
    subst hb
    rw [Int32.toInt_sub, nI_toInt hB]
    have : (1 : Int32).toInt = 1 := rfl
    rw [this]
    apply Int.bmod_eq_of_le <;> omega
  rw [e] at h2
  have h3 : (0 : Int64).toInt = 0 := rfl
  exact in_nv (by omega) (by omega)
theorem in_k {x : Int32} {c : Int64} (N : Nat) (hc : c.toInt = N) (h : (0 : Int64) ≤ x.toInt64 ∧ x.toInt64 ≤ c) : x = nI (nv x) ∧ nv x < N + 1 := by
  obtain ⟨h1, h2⟩ := h
  rw [Int64.le_iff_toInt_le, in_x] at h1 h2
  have h3 : (0 : Int64).toInt = 0 := rfl
  exact in_nv (by omega) (by rw [hc] at h2; omega)
theorem jb_lt {x : Int32} {n : Nat} {c : Int32} {m : Nat} (h : jb x n) (hc : c = nI m) (hn : n < 2147483648) (hm : m < 2147483648) (hx : ¬ c ≤ x) : nv x < m := by
  rw [h.1, hc] at hx
  have := h.2
  rw [nI_leI hm (by omega)] at hx
  omega
theorem jb_ge {x : Int32} {n : Nat} {c : Int32} {m : Nat} (h : jb x n) (hc : c = nI m) (hn : n < 2147483648) (hm : m < 2147483648) (hx : c ≤ x) : m ≤ nv x := by
  rw [h.1, hc] at hx
  have := h.2
  rw [nI_leI hm (by omega)] at hx
  exact hx
theorem nI_dec (a : Nat) (h : 1 ≤ a) : nI a + Int32.ofInt (-1) = nI (a - 1) := by
  obtain ⟨b, rfl⟩ : ∃ b, a = b + 1 := ⟨a - 1, by omega⟩
  exact pk_m1 b
theorem m_u_1 (σ : jm) (k j : Nat) (v : Int32) : (m_u σ k j v).1 = jj_u σ.1 k j v := rfl
theorem m_u_2 (σ : jm) (k j : Nat) (v : Int32) : (m_u σ k j v).2 = σ.2 := rfl
theorem m_v_1 (σ : jm) (k j : Nat) (v : Int64) : (m_v σ k j v).1 = σ.1 := rfl
theorem m_v_2 (σ : jm) (k j : Nat) (v : Int64) : (m_v σ k j v).2 = jj_u σ.2 k j v := rfl
theorem c22 {j : Nat} (h : j ≤ 21) : j = 0 ∨ j = 1 ∨ j = 2 ∨ j = 3 ∨ j = 4 ∨ j = 5 ∨ j = 6 ∨ j = 7 ∨ j = 8 ∨ j = 9 ∨ j = 10 ∨ j = 11 ∨ j = 12 ∨ j = 13 ∨ j = 14 ∨ j = 15 ∨ j = 16 ∨ j = 17 ∨ j = 18 ∨ j = 19 ∨ j = 20 ∨ j = 21 := by omega
theorem c7 {j : Nat} (h : j ≤ 6) : j = 0 ∨ j = 1 ∨ j = 2 ∨ j = 3 ∨ j = 4 ∨ j = 5 ∨ j = 6 := by omega
theorem jj_top {X : jj_X} {Q : State → Prop} {k n pc : Nat} {ls : List (Nat × jj_v)} {st : List jj_v} {τ : jj_T} {I : jj_I} {L : jj_L} {r : jj_R} {x : Int32} (y : Int32) (h : x = y) (kk : jj_J X Q k n pc ls (jI y :: st) τ I L r) : jj_J X Q k n pc ls (jI x :: st) τ I L r := by rw [h]; exact kk
theorem jj_topL {X : jj_X} {Q : State → Prop} {k n pc : Nat} {ls : List (Nat × jj_v)} {st : List jj_v} {τ : jj_T} {I : jj_I} {L : jj_L} {r : jj_R} {x : Int64} (y : Int64) (h : x = y) (kk : jj_J X Q k n pc ls (jL y :: st) τ I L r) : jj_J X Q k n pc ls (jL x :: st) τ I L r := by rw [h]; exact kk
theorem jj_mem {X : jj_X} {Q : State → Prop} {k n pc : Nat} {ls : List (Nat × jj_v)} {st : List jj_v} {τ : jj_T} {I : jj_I} {L : jj_L} {r : jj_R} (σ : jm) (hI : I = σ.1) (hL : L = σ.2) (kk : jj_J X Q k n pc ls st τ σ.1 σ.2 r) : jj_J X Q k n pc ls st τ I L r := by rw [hI, hL]; exact kk
