set_option maxRecDepth 100000
theorem w_does_e {X : jj_X} (hX : jj_ok X cX25_does "BranchCellsModel" 10 4 112 0 0) (hr : jj_Ret X none) (σ : jm) (t : Nat) (nx : Int32) (ht : t < 85) (hb : jb (σ.1 13 t) 7) : jj_J X (jj_End X (jj_eq none jm_T (m_dn t nx σ).1 (m_dn t nx σ).2 jm_R) jj_no 0 0) 0 0 458 [(0, jR (some 0)), (1, jI (nI t)), (9, jI nx)] [] jm_T σ.1 σ.2 jm_R := by
  refine jj_aload_n (pc := 458) hX dX25_does_458 rfl ?_
  refine jj_getR (pc := 459) hX (x := some 15) fl_X25_41_25 dX25_does_459 rfl rfl rfl ?_
  refine jj_iload_n (pc := 462) hX dX25_does_462 rfl ?_
  refine jj_iald (pc := 463) hX t dX25_does_463 rfl rfl rfl ⟨by omega, by omega⟩ ?_
  refine jj_iconst (pc := 464) hX (v := 3) dX25_does_464 (by decide) ?_
  refine jj_icmp_eq (pc := 465) hX 481 dX25_does_465 rfl (fun h465 => ?_) (fun h465 => ?_)
  · refine jj_vret (pc := 481) hX dX25_does_481 hr ⟨Nat.le_refl _, Nat.le_refl _⟩ ?_
    unfold m_dn
    rw [if_pos h465]
    exact ⟨rfl, rfl, rfl, rfl, rfl⟩
  · refine jj_aload_n (pc := 468) hX dX25_does_468 rfl ?_
    refine jj_getR (pc := 469) hX (x := some 14) fl_X25_38_25 dX25_does_469 rfl rfl rfl ?_
    refine jj_iload_n (pc := 472) hX dX25_does_472 rfl ?_
    refine jj_iload (pc := 473) hX dX25_does_473 rfl ?_
    refine jj_iast (pc := 475) hX t dX25_does_475 rfl rfl ⟨by omega, by omega⟩ ?_
    refine jj_aload_n (pc := 476) hX dX25_does_476 rfl ?_
    refine jj_iload_n (pc := 477) hX dX25_does_477 rfl ?_
    refine jj_callV (pc := 478) hX (w_endsBehind X.1 (m_u σ 14 t nx) t ht hb) dX25_does_478 (lw_V q1643 q1645 qs28 q78 q1646) rfl ⟨by decide +kernel, by decide +kernel, by show _ = some (1 : Nat); decide +kernel⟩ ⟨Nat.le_of_ble_eq_true rfl, Nat.le_of_ble_eq_true rfl, Nat.le_of_ble_eq_true rfl, Nat.le_of_ble_eq_true rfl, Nat.le_of_ble_eq_true rfl⟩ (fun q => by cases q) rfl jc_25 rfl (jj_keq ?_) jj_kno
    refine jj_vret (pc := 481) hX dX25_does_481 hr ⟨Nat.le_refl _, Nat.le_refl _⟩ ?_
    unfold m_dn
    rw [if_neg h465]
    exact ⟨rfl, rfl, rfl, rfl, rfl⟩

theorem jj_mid {X : jj_X} {Q : State → Prop} {k n pc : Nat} {ls : List (Nat × jj_v)} {u : jj_v} {st : List jj_v} {τ : jj_T} {I : jj_I} {L : jj_L} {r : jj_R} {x y : Int32} (h : x = y) (kk : jj_J X Q k n pc ls (u :: jI y :: st) τ I L r) : jj_J X Q k n pc ls (u :: jI x :: st) τ I L r := by rw [h]; exact kk
theorem w_does_0 (G : jj_G) (σ : jm) (t : Nat) (a : Int32) (x : Int64) (xh : Int32) (y : Int64) (ht : t < 85) (hb : jb ((m_do t 0 a x xh y σ).1 13 t) 7) (hp : jb (σ.1 32 t) 11) : jm_M G yX25_does cX25_does 10 none 4 112 [jI (nI t), jI 0, jI a, jL x, jI xh, jL y] σ (m_does t 0 a x xh y σ) none := by
  refine jj_intro "BranchCellsModel" (by decide) rfl (Nat.le_of_ble_eq_true rfl) ?_
  intro X hG hX hr hN hC hF
  subst hG
  unfold m_does
  refine jj_aload_n (pc := 0) hX dX25_does_0 rfl ?_
  refine jj_getR (pc := 1) hX (x := some 14) fl_X25_38_25 dX25_does_1 rfl rfl rfl ?_
  refine jj_iload_n (pc := 4) hX dX25_does_4 rfl ?_
  refine jj_iald (pc := 5) hX t dX25_does_5 rfl rfl rfl ⟨by omega, by omega⟩ ?_
  refine jj_iconst (pc := 6) hX (v := 1) dX25_does_6 (by decide) ?_
  refine jj_iadd (pc := 7) hX dX25_does_7 ?_
  refine jj_istore (pc := 8) hX dX25_does_8 (by decide) ?_
  refine jj_iload_n (pc := 10) hX dX25_does_10 rfl ?_
  refine jj_tabIn (pc := 11) hX 108 dX25_does_11 (by decide) (by decide) rfl rfl ?_
  refine jj_aload_n (pc := 108) hX dX25_does_108 rfl ?_
  refine jj_iload_n (pc := 109) hX dX25_does_109 rfl ?_
  refine jj_iload_n (pc := 110) hX dX25_does_110 rfl ?_
  refine jj_i2l (pc := 111) hX dX25_does_111 ?_
  refine jj_iconst (pc := 112) hX (v := 0) dX25_does_112 (by decide) ?_
  refine jj_callV (pc := 113) hX (w_push X.1 σ t _ _ ht hp (Or.inl rfl)) dX25_does_113 (lw_V q1693 q1695 qs37 q78 q1696) rfl ⟨by decide +kernel, by decide +kernel, by show _ = some (3 : Nat); decide +kernel⟩ ⟨Nat.le_of_ble_eq_true rfl, Nat.le_of_ble_eq_true rfl, Nat.le_of_ble_eq_true rfl, Nat.le_of_ble_eq_true rfl, Nat.le_of_ble_eq_true rfl⟩ (fun q => by cases q) rfl jc_25 rfl (jj_keq ?_) jj_kno
  refine jj_goto (pc := 116) hX 458 dX25_does_116 rfl ?_
  have e9 : m_next t 0 a x σ = ((σ.1 14 t) + 1) := rfl
  refine jj_mem (m_do t 0 a x xh y σ) rfl rfl ?_
  rw [e9]
  refine jj_ls [(0, jR (some 0)), (1, jI (nI t)), (9, jI ((σ.1 14 t) + 1))] ⟨rfl, rfl, rfl, trivial⟩ ?_
  exact w_does_e hX hr _ t _ ht hb

theorem w_does_1 (G : jj_G) (σ : jm) (t : Nat) (a : Int32) (x : Int64) (xh : Int32) (y : Int64) (ht : t < 85) (hb : jb ((m_do t 1 a x xh y σ).1 13 t) 7) (ha : jb a 15) (hp : jb (σ.1 32 t) 11) (hu : m_und σ) (hc : m_ch (nv (σ.1 0 36)) (σ.1 22 t)) : jm_M G yX25_does cX25_does 10 none 4 112 [jI (nI t), jI 1, jI a, jL x, jI xh, jL y] σ (m_does t 1 a x xh y σ) none := by
  refine jj_intro "BranchCellsModel" (by decide) rfl (Nat.le_of_ble_eq_true rfl) ?_
  intro X hG hX hr hN hC hF
  subst hG
  unfold m_does
  have ha2 := ha.2
  refine jj_aload_n (pc := 0) hX dX25_does_0 rfl ?_
  refine jj_getR (pc := 1) hX (x := some 14) fl_X25_38_25 dX25_does_1 rfl rfl rfl ?_
  refine jj_iload_n (pc := 4) hX dX25_does_4 rfl ?_
  refine jj_iald (pc := 5) hX t dX25_does_5 rfl rfl rfl ⟨by omega, by omega⟩ ?_
  refine jj_iconst (pc := 6) hX (v := 1) dX25_does_6 (by decide) ?_
  refine jj_iadd (pc := 7) hX dX25_does_7 ?_
  refine jj_istore (pc := 8) hX dX25_does_8 (by decide) ?_
  refine jj_iload_n (pc := 10) hX dX25_does_10 rfl ?_
  refine jj_tabIn (pc := 11) hX 119 dX25_does_11 (by decide) (by decide) rfl rfl ?_
  refine jj_aload_n (pc := 119) hX dX25_does_119 rfl ?_
  refine jj_iload_n (pc := 120) hX dX25_does_120 rfl ?_
  refine jj_aload_n (pc := 121) hX dX25_does_121 rfl ?_
  refine jj_aload_n (pc := 122) hX dX25_does_122 rfl ?_
  refine jj_getR (pc := 123) hX (x := some 22) fl_X25_62_25 dX25_does_123 rfl rfl rfl ?_
  refine jj_iload_n (pc := 126) hX dX25_does_126 rfl ?_
  refine jj_iald (pc := 127) hX t dX25_does_127 rfl rfl rfl ⟨by omega, by omega⟩ ?_
  refine jj_iload_n (pc := 128) hX dX25_does_128 rfl ?_
  refine jj_top (nI (nv a)) ha.1 ?_
  refine jj_callV (pc := 129) hX (w_readFrom X.1 σ _ _ (Nat.lt_succ_of_le ha.2) hu hc) dX25_does_129 (lw_V q1697 q1699 qs38 q78 q1700) rfl ⟨by decide +kernel, by decide +kernel, by show _ = some (2 : Nat); decide +kernel⟩ ⟨Nat.le_of_ble_eq_true rfl, Nat.le_of_ble_eq_true rfl, Nat.le_of_ble_eq_true rfl, Nat.le_of_ble_eq_true rfl, Nat.le_of_ble_eq_true rfl⟩ (fun q => by cases q) rfl jc_25 rfl (jj_keq ?_) jj_kno
  refine jj_iconst (pc := 132) hX (v := 0) dX25_does_132 (by decide) ?_
  refine jj_callV (pc := 133) hX (w_push X.1 σ t _ _ ht hp (Or.inl rfl)) dX25_does_133 (lw_V q1693 q1695 qs37 q78 q1696) rfl ⟨by decide +kernel, by decide +kernel, by show _ = some (3 : Nat); decide +kernel⟩ ⟨Nat.le_of_ble_eq_true rfl, Nat.le_of_ble_eq_true rfl, Nat.le_of_ble_eq_true rfl, Nat.le_of_ble_eq_true rfl, Nat.le_of_ble_eq_true rfl⟩ (fun q => by cases q) rfl jc_25 rfl (jj_keq ?_) jj_kno
  refine jj_goto (pc := 136) hX 458 dX25_does_136 rfl ?_
  have e9 : m_next t 1 a x σ = ((σ.1 14 t) + 1) := rfl
  refine jj_mem (m_do t 1 a x xh y σ) rfl rfl ?_
  rw [e9]
  refine jj_ls [(0, jR (some 0)), (1, jI (nI t)), (9, jI ((σ.1 14 t) + 1))] ⟨rfl, rfl, rfl, trivial⟩ ?_
  exact w_does_e hX hr _ t _ ht hb

theorem w_does_2 (G : jj_G) (σ : jm) (t : Nat) (a : Int32) (x : Int64) (xh : Int32) (y : Int64) (ht : t < 85) (hb : jb ((m_do t 2 a x xh y σ).1 13 t) 7) (ha : jb a 15) (hc : jb (σ.1 22 t) 168) : jm_M G yX25_does cX25_does 10 none 4 112 [jI (nI t), jI 2, jI a, jL x, jI xh, jL y] σ (m_does t 2 a x xh y σ) none := by
  refine jj_intro "BranchCellsModel" (by decide) rfl (Nat.le_of_ble_eq_true rfl) ?_
  intro X hG hX hr hN hC hF
  subst hG
  unfold m_does
  have ha2 := ha.2
  refine jj_aload_n (pc := 0) hX dX25_does_0 rfl ?_
  refine jj_getR (pc := 1) hX (x := some 14) fl_X25_38_25 dX25_does_1 rfl rfl rfl ?_
  refine jj_iload_n (pc := 4) hX dX25_does_4 rfl ?_
  refine jj_iald (pc := 5) hX t dX25_does_5 rfl rfl rfl ⟨by omega, by omega⟩ ?_
  refine jj_iconst (pc := 6) hX (v := 1) dX25_does_6 (by decide) ?_
  refine jj_iadd (pc := 7) hX dX25_does_7 ?_
  refine jj_istore (pc := 8) hX dX25_does_8 (by decide) ?_
  refine jj_iload_n (pc := 10) hX dX25_does_10 rfl ?_
  refine jj_tabIn (pc := 11) hX 139 dX25_does_11 (by decide) (by decide) rfl rfl ?_
  refine jj_aload_n (pc := 139) hX dX25_does_139 rfl ?_
  refine jj_iload_n (pc := 140) hX dX25_does_140 rfl ?_
  refine jj_iload_n (pc := 141) hX dX25_does_141 rfl ?_
  refine jj_lload (pc := 142) hX dX25_does_142 rfl ?_
  refine jj_mid ha.1 ?_
  refine jj_callV (pc := 144) hX (w_write X.1 σ t _ _ ht (Nat.lt_succ_of_le ha.2) hc) dX25_does_144 (lw_V q1701 q1703 qs39 q78 q1704) rfl ⟨by decide +kernel, by decide +kernel, by show _ = some (3 : Nat); decide +kernel⟩ ⟨Nat.le_of_ble_eq_true rfl, Nat.le_of_ble_eq_true rfl, Nat.le_of_ble_eq_true rfl, Nat.le_of_ble_eq_true rfl, Nat.le_of_ble_eq_true rfl⟩ (fun q => by cases q) rfl jc_25 rfl (jj_keq ?_) jj_kno
  refine jj_goto (pc := 147) hX 458 dX25_does_147 rfl ?_
  have e9 : m_next t 2 a x σ = ((σ.1 14 t) + 1) := rfl
  refine jj_mem (m_do t 2 a x xh y σ) rfl rfl ?_
  rw [e9]
  refine jj_ls [(0, jR (some 0)), (1, jI (nI t)), (9, jI ((σ.1 14 t) + 1))] ⟨rfl, rfl, rfl, trivial⟩ ?_
  exact w_does_e hX hr _ t _ ht hb

theorem w_does_3 (G : jj_G) (σ : jm) (t : Nat) (a : Int32) (x : Int64) (xh : Int32) (y : Int64) (ht : t < 85) (hb : jb ((m_do t 3 a x xh y σ).1 13 t) 7) (ha : jb x.toInt32 15) (hp : jb (σ.1 32 t) 11) (hu : m_und σ) (hc : m_ch (nv (σ.1 0 36)) (σ.1 22 t)) : jm_M G yX25_does cX25_does 10 none 4 112 [jI (nI t), jI 3, jI a, jL x, jI xh, jL y] σ (m_does t 3 a x xh y σ) none := by
  refine jj_intro "BranchCellsModel" (by decide) rfl (Nat.le_of_ble_eq_true rfl) ?_
  intro X hG hX hr hN hC hF
  subst hG
  unfold m_does
  have ha2 := ha.2
  refine jj_aload_n (pc := 0) hX dX25_does_0 rfl ?_
  refine jj_getR (pc := 1) hX (x := some 14) fl_X25_38_25 dX25_does_1 rfl rfl rfl ?_
  refine jj_iload_n (pc := 4) hX dX25_does_4 rfl ?_
  refine jj_iald (pc := 5) hX t dX25_does_5 rfl rfl rfl ⟨by omega, by omega⟩ ?_
  refine jj_iconst (pc := 6) hX (v := 1) dX25_does_6 (by decide) ?_
  refine jj_iadd (pc := 7) hX dX25_does_7 ?_
  refine jj_istore (pc := 8) hX dX25_does_8 (by decide) ?_
  refine jj_iload_n (pc := 10) hX dX25_does_10 rfl ?_
  refine jj_tabIn (pc := 11) hX 150 dX25_does_11 (by decide) (by decide) rfl rfl ?_
  refine jj_aload_n (pc := 150) hX dX25_does_150 rfl ?_
  refine jj_iload_n (pc := 151) hX dX25_does_151 rfl ?_
  refine jj_aload_n (pc := 152) hX dX25_does_152 rfl ?_
  refine jj_aload_n (pc := 153) hX dX25_does_153 rfl ?_
  refine jj_getR (pc := 154) hX (x := some 22) fl_X25_62_25 dX25_does_154 rfl rfl rfl ?_
  refine jj_iload_n (pc := 157) hX dX25_does_157 rfl ?_
  refine jj_iald (pc := 158) hX t dX25_does_158 rfl rfl rfl ⟨by omega, by omega⟩ ?_
  refine jj_lload (pc := 159) hX dX25_does_159 rfl ?_
  refine jj_l2i (pc := 161) hX dX25_does_161 ?_
  refine jj_top (nI (nv x.toInt32)) ha.1 ?_
  refine jj_callV (pc := 162) hX (w_readFrom X.1 σ _ _ (Nat.lt_succ_of_le ha.2) hu hc) dX25_does_162 (lw_V q1697 q1699 qs38 q78 q1700) rfl ⟨by decide +kernel, by decide +kernel, by show _ = some (2 : Nat); decide +kernel⟩ ⟨Nat.le_of_ble_eq_true rfl, Nat.le_of_ble_eq_true rfl, Nat.le_of_ble_eq_true rfl, Nat.le_of_ble_eq_true rfl, Nat.le_of_ble_eq_true rfl⟩ (fun q => by cases q) rfl jc_25 rfl (jj_keq ?_) jj_kno
  refine jj_iconst (pc := 165) hX (v := 0) dX25_does_165 (by decide) ?_
  refine jj_callV (pc := 166) hX (w_push X.1 σ t _ _ ht hp (Or.inl rfl)) dX25_does_166 (lw_V q1693 q1695 qs37 q78 q1696) rfl ⟨by decide +kernel, by decide +kernel, by show _ = some (3 : Nat); decide +kernel⟩ ⟨Nat.le_of_ble_eq_true rfl, Nat.le_of_ble_eq_true rfl, Nat.le_of_ble_eq_true rfl, Nat.le_of_ble_eq_true rfl, Nat.le_of_ble_eq_true rfl⟩ (fun q => by cases q) rfl jc_25 rfl (jj_keq ?_) jj_kno
  refine jj_goto (pc := 169) hX 458 dX25_does_169 rfl ?_
  have e9 : m_next t 3 a x σ = ((σ.1 14 t) + 1) := rfl
  refine jj_mem (m_do t 3 a x xh y σ) rfl rfl ?_
  rw [e9]
  refine jj_ls [(0, jR (some 0)), (1, jI (nI t)), (9, jI ((σ.1 14 t) + 1))] ⟨rfl, rfl, rfl, trivial⟩ ?_
  exact w_does_e hX hr _ t _ ht hb

theorem w_does_4 (G : jj_G) (σ : jm) (t : Nat) (a : Int32) (x : Int64) (xh : Int32) (y : Int64) (ht : t < 85) (hb : jb ((m_do t 4 a x xh y σ).1 13 t) 7) (ha : jb x.toInt32 15) (hc : jb (σ.1 22 t) 168) : jm_M G yX25_does cX25_does 10 none 4 112 [jI (nI t), jI 4, jI a, jL x, jI xh, jL y] σ (m_does t 4 a x xh y σ) none := by
  refine jj_intro "BranchCellsModel" (by decide) rfl (Nat.le_of_ble_eq_true rfl) ?_
  intro X hG hX hr hN hC hF
  subst hG
  unfold m_does
  have ha2 := ha.2
  refine jj_aload_n (pc := 0) hX dX25_does_0 rfl ?_
  refine jj_getR (pc := 1) hX (x := some 14) fl_X25_38_25 dX25_does_1 rfl rfl rfl ?_
  refine jj_iload_n (pc := 4) hX dX25_does_4 rfl ?_
  refine jj_iald (pc := 5) hX t dX25_does_5 rfl rfl rfl ⟨by omega, by omega⟩ ?_
  refine jj_iconst (pc := 6) hX (v := 1) dX25_does_6 (by decide) ?_
  refine jj_iadd (pc := 7) hX dX25_does_7 ?_
  refine jj_istore (pc := 8) hX dX25_does_8 (by decide) ?_
  refine jj_iload_n (pc := 10) hX dX25_does_10 rfl ?_
  refine jj_tabIn (pc := 11) hX 172 dX25_does_11 (by decide) (by decide) rfl rfl ?_
  refine jj_aload_n (pc := 172) hX dX25_does_172 rfl ?_
  refine jj_iload_n (pc := 173) hX dX25_does_173 rfl ?_
  refine jj_lload (pc := 174) hX dX25_does_174 rfl ?_
  refine jj_l2i (pc := 176) hX dX25_does_176 ?_
  refine jj_lload (pc := 177) hX dX25_does_177 rfl ?_
  refine jj_mid ha.1 ?_
  refine jj_callV (pc := 179) hX (w_write X.1 σ t _ _ ht (Nat.lt_succ_of_le ha.2) hc) dX25_does_179 (lw_V q1701 q1703 qs39 q78 q1704) rfl ⟨by decide +kernel, by decide +kernel, by show _ = some (3 : Nat); decide +kernel⟩ ⟨Nat.le_of_ble_eq_true rfl, Nat.le_of_ble_eq_true rfl, Nat.le_of_ble_eq_true rfl, Nat.le_of_ble_eq_true rfl, Nat.le_of_ble_eq_true rfl⟩ (fun q => by cases q) rfl jc_25 rfl (jj_keq ?_) jj_kno
  refine jj_goto (pc := 182) hX 458 dX25_does_182 rfl ?_
  have e9 : m_next t 4 a x σ = ((σ.1 14 t) + 1) := rfl
  refine jj_mem (m_do t 4 a x xh y σ) rfl rfl ?_
  rw [e9]
  refine jj_ls [(0, jR (some 0)), (1, jI (nI t)), (9, jI ((σ.1 14 t) + 1))] ⟨rfl, rfl, rfl, trivial⟩ ?_
  exact w_does_e hX hr _ t _ ht hb

theorem w_does_5 (G : jj_G) (σ : jm) (t : Nat) (a : Int32) (x : Int64) (xh : Int32) (y : Int64) (ht : t < 85) (hb : jb ((m_do t 5 a x xh y σ).1 13 t) 7) (hp : jb (σ.1 32 t) 11) : jm_M G yX25_does cX25_does 10 none 4 112 [jI (nI t), jI 5, jI a, jL x, jI xh, jL y] σ (m_does t 5 a x xh y σ) none := by
  refine jj_intro "BranchCellsModel" (by decide) rfl (Nat.le_of_ble_eq_true rfl) ?_
  intro X hG hX hr hN hC hF
  subst hG
  unfold m_does
  refine jj_aload_n (pc := 0) hX dX25_does_0 rfl ?_
  refine jj_getR (pc := 1) hX (x := some 14) fl_X25_38_25 dX25_does_1 rfl rfl rfl ?_
  refine jj_iload_n (pc := 4) hX dX25_does_4 rfl ?_
  refine jj_iald (pc := 5) hX t dX25_does_5 rfl rfl rfl ⟨by omega, by omega⟩ ?_
  refine jj_iconst (pc := 6) hX (v := 1) dX25_does_6 (by decide) ?_
  refine jj_iadd (pc := 7) hX dX25_does_7 ?_
  refine jj_istore (pc := 8) hX dX25_does_8 (by decide) ?_
  refine jj_iload_n (pc := 10) hX dX25_does_10 rfl ?_
  refine jj_tabIn (pc := 11) hX 185 dX25_does_11 (by decide) (by decide) rfl rfl ?_
  refine jj_aload_n (pc := 185) hX dX25_does_185 rfl ?_
  refine jj_iload_n (pc := 186) hX dX25_does_186 rfl ?_
  refine jj_lload (pc := 187) hX dX25_does_187 rfl ?_
  refine jj_lload (pc := 189) hX dX25_does_189 rfl ?_
  refine jj_ladd (pc := 191) hX dX25_does_191 ?_
  refine jj_iconst (pc := 192) hX (v := 0) dX25_does_192 (by decide) ?_
  refine jj_callV (pc := 193) hX (w_push X.1 σ t _ _ ht hp (Or.inl rfl)) dX25_does_193 (lw_V q1693 q1695 qs37 q78 q1696) rfl ⟨by decide +kernel, by decide +kernel, by show _ = some (3 : Nat); decide +kernel⟩ ⟨Nat.le_of_ble_eq_true rfl, Nat.le_of_ble_eq_true rfl, Nat.le_of_ble_eq_true rfl, Nat.le_of_ble_eq_true rfl, Nat.le_of_ble_eq_true rfl⟩ (fun q => by cases q) rfl jc_25 rfl (jj_keq ?_) jj_kno
  refine jj_goto (pc := 196) hX 458 dX25_does_196 rfl ?_
  have e9 : m_next t 5 a x σ = ((σ.1 14 t) + 1) := rfl
  refine jj_mem (m_do t 5 a x xh y σ) rfl rfl ?_
  rw [e9]
  refine jj_ls [(0, jR (some 0)), (1, jI (nI t)), (9, jI ((σ.1 14 t) + 1))] ⟨rfl, rfl, rfl, trivial⟩ ?_
  exact w_does_e hX hr _ t _ ht hb

theorem w_does_6 (G : jj_G) (σ : jm) (t : Nat) (a : Int32) (x : Int64) (xh : Int32) (y : Int64) (ht : t < 85) (hb : jb ((m_do t 6 a x xh y σ).1 13 t) 7) (hp : jb (σ.1 32 t) 11) : jm_M G yX25_does cX25_does 10 none 4 112 [jI (nI t), jI 6, jI a, jL x, jI xh, jL y] σ (m_does t 6 a x xh y σ) none := by
  refine jj_intro "BranchCellsModel" (by decide) rfl (Nat.le_of_ble_eq_true rfl) ?_
  intro X hG hX hr hN hC hF
  subst hG
  unfold m_does
  refine jj_aload_n (pc := 0) hX dX25_does_0 rfl ?_
  refine jj_getR (pc := 1) hX (x := some 14) fl_X25_38_25 dX25_does_1 rfl rfl rfl ?_
  refine jj_iload_n (pc := 4) hX dX25_does_4 rfl ?_
  refine jj_iald (pc := 5) hX t dX25_does_5 rfl rfl rfl ⟨by omega, by omega⟩ ?_
  refine jj_iconst (pc := 6) hX (v := 1) dX25_does_6 (by decide) ?_
  refine jj_iadd (pc := 7) hX dX25_does_7 ?_
  refine jj_istore (pc := 8) hX dX25_does_8 (by decide) ?_
  refine jj_iload_n (pc := 10) hX dX25_does_10 rfl ?_
  refine jj_tabIn (pc := 11) hX 199 dX25_does_11 (by decide) (by decide) rfl rfl ?_
  refine jj_aload_n (pc := 199) hX dX25_does_199 rfl ?_
  refine jj_iload_n (pc := 200) hX dX25_does_200 rfl ?_
  refine jj_lload (pc := 201) hX dX25_does_201 rfl ?_
  refine jj_lload (pc := 203) hX dX25_does_203 rfl ?_
  refine jj_lsub (pc := 205) hX dX25_does_205 ?_
  refine jj_iconst (pc := 206) hX (v := 0) dX25_does_206 (by decide) ?_
  refine jj_callV (pc := 207) hX (w_push X.1 σ t _ _ ht hp (Or.inl rfl)) dX25_does_207 (lw_V q1693 q1695 qs37 q78 q1696) rfl ⟨by decide +kernel, by decide +kernel, by show _ = some (3 : Nat); decide +kernel⟩ ⟨Nat.le_of_ble_eq_true rfl, Nat.le_of_ble_eq_true rfl, Nat.le_of_ble_eq_true rfl, Nat.le_of_ble_eq_true rfl, Nat.le_of_ble_eq_true rfl⟩ (fun q => by cases q) rfl jc_25 rfl (jj_keq ?_) jj_kno
  refine jj_goto (pc := 210) hX 458 dX25_does_210 rfl ?_
  have e9 : m_next t 6 a x σ = ((σ.1 14 t) + 1) := rfl
  refine jj_mem (m_do t 6 a x xh y σ) rfl rfl ?_
  rw [e9]
  refine jj_ls [(0, jR (some 0)), (1, jI (nI t)), (9, jI ((σ.1 14 t) + 1))] ⟨rfl, rfl, rfl, trivial⟩ ?_
  exact w_does_e hX hr _ t _ ht hb

theorem w_does_7 (G : jj_G) (σ : jm) (t : Nat) (a : Int32) (x : Int64) (xh : Int32) (y : Int64) (ht : t < 85) (hb : jb ((m_do t 7 a x xh y σ).1 13 t) 7) (hp : jb (σ.1 32 t) 11) : jm_M G yX25_does cX25_does 10 none 4 112 [jI (nI t), jI 7, jI a, jL x, jI xh, jL y] σ (m_does t 7 a x xh y σ) none := by
  refine jj_intro "BranchCellsModel" (by decide) rfl (Nat.le_of_ble_eq_true rfl) ?_
  intro X hG hX hr hN hC hF
  subst hG
  unfold m_does
  refine jj_aload_n (pc := 0) hX dX25_does_0 rfl ?_
  refine jj_getR (pc := 1) hX (x := some 14) fl_X25_38_25 dX25_does_1 rfl rfl rfl ?_
  refine jj_iload_n (pc := 4) hX dX25_does_4 rfl ?_
  refine jj_iald (pc := 5) hX t dX25_does_5 rfl rfl rfl ⟨by omega, by omega⟩ ?_
  refine jj_iconst (pc := 6) hX (v := 1) dX25_does_6 (by decide) ?_
  refine jj_iadd (pc := 7) hX dX25_does_7 ?_
  refine jj_istore (pc := 8) hX dX25_does_8 (by decide) ?_
  refine jj_iload_n (pc := 10) hX dX25_does_10 rfl ?_
  refine jj_tabIn (pc := 11) hX 213 dX25_does_11 (by decide) (by decide) rfl rfl ?_
  refine jj_aload_n (pc := 213) hX dX25_does_213 rfl ?_
  refine jj_iload_n (pc := 214) hX dX25_does_214 rfl ?_
  refine jj_lload (pc := 215) hX dX25_does_215 rfl ?_
  refine jj_lload (pc := 217) hX dX25_does_217 rfl ?_
  refine jj_lmul (pc := 219) hX dX25_does_219 ?_
  refine jj_iconst (pc := 220) hX (v := 0) dX25_does_220 (by decide) ?_
  refine jj_callV (pc := 221) hX (w_push X.1 σ t _ _ ht hp (Or.inl rfl)) dX25_does_221 (lw_V q1693 q1695 qs37 q78 q1696) rfl ⟨by decide +kernel, by decide +kernel, by show _ = some (3 : Nat); decide +kernel⟩ ⟨Nat.le_of_ble_eq_true rfl, Nat.le_of_ble_eq_true rfl, Nat.le_of_ble_eq_true rfl, Nat.le_of_ble_eq_true rfl, Nat.le_of_ble_eq_true rfl⟩ (fun q => by cases q) rfl jc_25 rfl (jj_keq ?_) jj_kno
  refine jj_goto (pc := 224) hX 458 dX25_does_224 rfl ?_
  have e9 : m_next t 7 a x σ = ((σ.1 14 t) + 1) := rfl
  refine jj_mem (m_do t 7 a x xh y σ) rfl rfl ?_
  rw [e9]
  refine jj_ls [(0, jR (some 0)), (1, jI (nI t)), (9, jI ((σ.1 14 t) + 1))] ⟨rfl, rfl, rfl, trivial⟩ ?_
  exact w_does_e hX hr _ t _ ht hb

theorem w_does_8 (G : jj_G) (σ : jm) (t : Nat) (a : Int32) (x : Int64) (xh : Int32) (y : Int64) (ht : t < 85) (hb : jb ((m_do t 8 a x xh y σ).1 13 t) 7) (hp : jb (σ.1 32 t) 11) (hy : ¬ y = 0) : jm_M G yX25_does cX25_does 10 none 4 112 [jI (nI t), jI 8, jI a, jL x, jI xh, jL y] σ (m_does t 8 a x xh y σ) none := by
  refine jj_intro "BranchCellsModel" (by decide) rfl (Nat.le_of_ble_eq_true rfl) ?_
  intro X hG hX hr hN hC hF
  subst hG
  unfold m_does
  refine jj_aload_n (pc := 0) hX dX25_does_0 rfl ?_
  refine jj_getR (pc := 1) hX (x := some 14) fl_X25_38_25 dX25_does_1 rfl rfl rfl ?_
  refine jj_iload_n (pc := 4) hX dX25_does_4 rfl ?_
  refine jj_iald (pc := 5) hX t dX25_does_5 rfl rfl rfl ⟨by omega, by omega⟩ ?_
  refine jj_iconst (pc := 6) hX (v := 1) dX25_does_6 (by decide) ?_
  refine jj_iadd (pc := 7) hX dX25_does_7 ?_
  refine jj_istore (pc := 8) hX dX25_does_8 (by decide) ?_
  refine jj_iload_n (pc := 10) hX dX25_does_10 rfl ?_
  refine jj_tabIn (pc := 11) hX 227 dX25_does_11 (by decide) (by decide) rfl rfl ?_
  refine jj_aload_n (pc := 227) hX dX25_does_227 rfl ?_
  refine jj_iload_n (pc := 228) hX dX25_does_228 rfl ?_
  refine jj_lload (pc := 229) hX dX25_does_229 rfl ?_
  refine jj_lload (pc := 231) hX dX25_does_231 rfl ?_
  refine jj_ldiv (pc := 233) hX dX25_does_233 hy ?_
  refine jj_iconst (pc := 234) hX (v := 0) dX25_does_234 (by decide) ?_
  refine jj_callV (pc := 235) hX (w_push X.1 σ t _ _ ht hp (Or.inl rfl)) dX25_does_235 (lw_V q1693 q1695 qs37 q78 q1696) rfl ⟨by decide +kernel, by decide +kernel, by show _ = some (3 : Nat); decide +kernel⟩ ⟨Nat.le_of_ble_eq_true rfl, Nat.le_of_ble_eq_true rfl, Nat.le_of_ble_eq_true rfl, Nat.le_of_ble_eq_true rfl, Nat.le_of_ble_eq_true rfl⟩ (fun q => by cases q) rfl jc_25 rfl (jj_keq ?_) jj_kno
  refine jj_goto (pc := 238) hX 458 dX25_does_238 rfl ?_
  have e9 : m_next t 8 a x σ = ((σ.1 14 t) + 1) := rfl
  refine jj_mem (m_do t 8 a x xh y σ) rfl rfl ?_
  rw [e9]
  refine jj_ls [(0, jR (some 0)), (1, jI (nI t)), (9, jI ((σ.1 14 t) + 1))] ⟨rfl, rfl, rfl, trivial⟩ ?_
  exact w_does_e hX hr _ t _ ht hb

theorem w_does_9 (G : jj_G) (σ : jm) (t : Nat) (a : Int32) (x : Int64) (xh : Int32) (y : Int64) (ht : t < 85) (hb : jb ((m_do t 9 a x xh y σ).1 13 t) 7) (hp : jb (σ.1 32 t) 11) : jm_M G yX25_does cX25_does 10 none 4 112 [jI (nI t), jI 9, jI a, jL x, jI xh, jL y] σ (m_does t 9 a x xh y σ) none := by
  refine jj_intro "BranchCellsModel" (by decide) rfl (Nat.le_of_ble_eq_true rfl) ?_
  intro X hG hX hr hN hC hF
  subst hG
  unfold m_does
  refine jj_aload_n (pc := 0) hX dX25_does_0 rfl ?_
  refine jj_getR (pc := 1) hX (x := some 14) fl_X25_38_25 dX25_does_1 rfl rfl rfl ?_
  refine jj_iload_n (pc := 4) hX dX25_does_4 rfl ?_
  refine jj_iald (pc := 5) hX t dX25_does_5 rfl rfl rfl ⟨by omega, by omega⟩ ?_
  refine jj_iconst (pc := 6) hX (v := 1) dX25_does_6 (by decide) ?_
  refine jj_iadd (pc := 7) hX dX25_does_7 ?_
  refine jj_istore (pc := 8) hX dX25_does_8 (by decide) ?_
  refine jj_iload_n (pc := 10) hX dX25_does_10 rfl ?_
  refine jj_tabIn (pc := 11) hX 241 dX25_does_11 (by decide) (by decide) rfl rfl ?_
  refine jj_aload_n (pc := 241) hX dX25_does_241 rfl ?_
  refine jj_iload_n (pc := 242) hX dX25_does_242 rfl ?_
  refine jj_lload (pc := 243) hX dX25_does_243 rfl ?_
  refine jj_lload (pc := 245) hX dX25_does_245 rfl ?_
  refine jj_lcmp (pc := 247) hX dX25_does_247 ?_
  refine jj_if_ge (pc := 248) hX 255 dX25_does_248 rfl (fun h248 => ?_) (fun h248 => ?_)
  · have h248 := (lg_cmp_ge x y).mp h248
    refine jj_lconst (pc := 255) hX (v := 0) dX25_does_255 (by decide) ?_
    refine jj_iconst (pc := 256) hX (v := 0) dX25_does_256 (by decide) ?_
    refine jj_callV (pc := 257) hX (w_push X.1 σ t _ _ ht hp (Or.inl rfl)) dX25_does_257 (lw_V q1693 q1695 qs37 q78 q1696) rfl ⟨by decide +kernel, by decide +kernel, by show _ = some (3 : Nat); decide +kernel⟩ ⟨Nat.le_of_ble_eq_true rfl, Nat.le_of_ble_eq_true rfl, Nat.le_of_ble_eq_true rfl, Nat.le_of_ble_eq_true rfl, Nat.le_of_ble_eq_true rfl⟩ (fun q => by cases q) rfl jc_25 rfl (jj_keq ?_) jj_kno
    refine jj_goto (pc := 260) hX 458 dX25_does_260 rfl ?_
    have e9 : m_next t 9 a x σ = ((σ.1 14 t) + 1) := rfl
    have e8 : m_do t 9 a x xh y σ = m_push t 0 0 σ := by show m_push t (if y ≤ x then 0 else 1) 0 σ = _; rw [if_pos h248]
    refine jj_mem (m_do t 9 a x xh y σ) (by rw [e8]) (by rw [e8]) ?_
    rw [e9]
    refine jj_ls [(0, jR (some 0)), (1, jI (nI t)), (9, jI ((σ.1 14 t) + 1))] ⟨rfl, rfl, rfl, trivial⟩ ?_
    exact w_does_e hX hr _ t _ ht hb
  · have h248 := (not_congr (lg_cmp_ge x y)).mp h248
    refine jj_lconst (pc := 251) hX (v := 1) dX25_does_251 (by decide) ?_
    refine jj_goto (pc := 252) hX 256 dX25_does_252 rfl ?_
    refine jj_iconst (pc := 256) hX (v := 0) dX25_does_256 (by decide) ?_
    refine jj_callV (pc := 257) hX (w_push X.1 σ t _ _ ht hp (Or.inl rfl)) dX25_does_257 (lw_V q1693 q1695 qs37 q78 q1696) rfl ⟨by decide +kernel, by decide +kernel, by show _ = some (3 : Nat); decide +kernel⟩ ⟨Nat.le_of_ble_eq_true rfl, Nat.le_of_ble_eq_true rfl, Nat.le_of_ble_eq_true rfl, Nat.le_of_ble_eq_true rfl, Nat.le_of_ble_eq_true rfl⟩ (fun q => by cases q) rfl jc_25 rfl (jj_keq ?_) jj_kno
    refine jj_goto (pc := 260) hX 458 dX25_does_260 rfl ?_
    have e9 : m_next t 9 a x σ = ((σ.1 14 t) + 1) := rfl
    have e8 : m_do t 9 a x xh y σ = m_push t 1 0 σ := by show m_push t (if y ≤ x then 0 else 1) 0 σ = _; rw [if_neg h248]
    refine jj_mem (m_do t 9 a x xh y σ) (by rw [e8]) (by rw [e8]) ?_
    rw [e9]
    refine jj_ls [(0, jR (some 0)), (1, jI (nI t)), (9, jI ((σ.1 14 t) + 1))] ⟨rfl, rfl, rfl, trivial⟩ ?_
    exact w_does_e hX hr _ t _ ht hb

theorem w_does_10 (G : jj_G) (σ : jm) (t : Nat) (a : Int32) (x : Int64) (xh : Int32) (y : Int64) (ht : t < 85) (hb : jb ((m_do t 10 a x xh y σ).1 13 t) 7) (hp : jb (σ.1 32 t) 11) : jm_M G yX25_does cX25_does 10 none 4 112 [jI (nI t), jI 10, jI a, jL x, jI xh, jL y] σ (m_does t 10 a x xh y σ) none := by
  refine jj_intro "BranchCellsModel" (by decide) rfl (Nat.le_of_ble_eq_true rfl) ?_
  intro X hG hX hr hN hC hF
  subst hG
  unfold m_does
  refine jj_aload_n (pc := 0) hX dX25_does_0 rfl ?_
  refine jj_getR (pc := 1) hX (x := some 14) fl_X25_38_25 dX25_does_1 rfl rfl rfl ?_
  refine jj_iload_n (pc := 4) hX dX25_does_4 rfl ?_
  refine jj_iald (pc := 5) hX t dX25_does_5 rfl rfl rfl ⟨by omega, by omega⟩ ?_
  refine jj_iconst (pc := 6) hX (v := 1) dX25_does_6 (by decide) ?_
  refine jj_iadd (pc := 7) hX dX25_does_7 ?_
  refine jj_istore (pc := 8) hX dX25_does_8 (by decide) ?_
  refine jj_iload_n (pc := 10) hX dX25_does_10 rfl ?_
  refine jj_tabIn (pc := 11) hX 263 dX25_does_11 (by decide) (by decide) rfl rfl ?_
  refine jj_aload_n (pc := 263) hX dX25_does_263 rfl ?_
  refine jj_iload_n (pc := 264) hX dX25_does_264 rfl ?_
  refine jj_lload (pc := 265) hX dX25_does_265 rfl ?_
  refine jj_lload (pc := 267) hX dX25_does_267 rfl ?_
  refine jj_land (pc := 269) hX dX25_does_269 ?_
  refine jj_iconst (pc := 270) hX (v := 0) dX25_does_270 (by decide) ?_
  refine jj_callV (pc := 271) hX (w_push X.1 σ t _ _ ht hp (Or.inl rfl)) dX25_does_271 (lw_V q1693 q1695 qs37 q78 q1696) rfl ⟨by decide +kernel, by decide +kernel, by show _ = some (3 : Nat); decide +kernel⟩ ⟨Nat.le_of_ble_eq_true rfl, Nat.le_of_ble_eq_true rfl, Nat.le_of_ble_eq_true rfl, Nat.le_of_ble_eq_true rfl, Nat.le_of_ble_eq_true rfl⟩ (fun q => by cases q) rfl jc_25 rfl (jj_keq ?_) jj_kno
  refine jj_goto (pc := 274) hX 458 dX25_does_274 rfl ?_
  have e9 : m_next t 10 a x σ = ((σ.1 14 t) + 1) := rfl
  refine jj_mem (m_do t 10 a x xh y σ) rfl rfl ?_
  rw [e9]
  refine jj_ls [(0, jR (some 0)), (1, jI (nI t)), (9, jI ((σ.1 14 t) + 1))] ⟨rfl, rfl, rfl, trivial⟩ ?_
  exact w_does_e hX hr _ t _ ht hb

theorem w_does_11 (G : jj_G) (σ : jm) (t : Nat) (a : Int32) (x : Int64) (xh : Int32) (y : Int64) (ht : t < 85) (hb : jb ((m_do t 11 a x xh y σ).1 13 t) 7) (hp : jb (σ.1 32 t) 11) : jm_M G yX25_does cX25_does 10 none 4 112 [jI (nI t), jI 11, jI a, jL x, jI xh, jL y] σ (m_does t 11 a x xh y σ) none := by
  refine jj_intro "BranchCellsModel" (by decide) rfl (Nat.le_of_ble_eq_true rfl) ?_
  intro X hG hX hr hN hC hF
  subst hG
  unfold m_does
  refine jj_aload_n (pc := 0) hX dX25_does_0 rfl ?_
  refine jj_getR (pc := 1) hX (x := some 14) fl_X25_38_25 dX25_does_1 rfl rfl rfl ?_
  refine jj_iload_n (pc := 4) hX dX25_does_4 rfl ?_
  refine jj_iald (pc := 5) hX t dX25_does_5 rfl rfl rfl ⟨by omega, by omega⟩ ?_
  refine jj_iconst (pc := 6) hX (v := 1) dX25_does_6 (by decide) ?_
  refine jj_iadd (pc := 7) hX dX25_does_7 ?_
  refine jj_istore (pc := 8) hX dX25_does_8 (by decide) ?_
  refine jj_iload_n (pc := 10) hX dX25_does_10 rfl ?_
  refine jj_tabIn (pc := 11) hX 277 dX25_does_11 (by decide) (by decide) rfl rfl ?_
  refine jj_aload_n (pc := 277) hX dX25_does_277 rfl ?_
  refine jj_iload_n (pc := 278) hX dX25_does_278 rfl ?_
  refine jj_lload (pc := 279) hX dX25_does_279 rfl ?_
  refine jj_lload (pc := 281) hX dX25_does_281 rfl ?_
  refine jj_lor (pc := 283) hX dX25_does_283 ?_
  refine jj_iconst (pc := 284) hX (v := 0) dX25_does_284 (by decide) ?_
  refine jj_callV (pc := 285) hX (w_push X.1 σ t _ _ ht hp (Or.inl rfl)) dX25_does_285 (lw_V q1693 q1695 qs37 q78 q1696) rfl ⟨by decide +kernel, by decide +kernel, by show _ = some (3 : Nat); decide +kernel⟩ ⟨Nat.le_of_ble_eq_true rfl, Nat.le_of_ble_eq_true rfl, Nat.le_of_ble_eq_true rfl, Nat.le_of_ble_eq_true rfl, Nat.le_of_ble_eq_true rfl⟩ (fun q => by cases q) rfl jc_25 rfl (jj_keq ?_) jj_kno
  refine jj_goto (pc := 288) hX 458 dX25_does_288 rfl ?_
  have e9 : m_next t 11 a x σ = ((σ.1 14 t) + 1) := rfl
  refine jj_mem (m_do t 11 a x xh y σ) rfl rfl ?_
  rw [e9]
  refine jj_ls [(0, jR (some 0)), (1, jI (nI t)), (9, jI ((σ.1 14 t) + 1))] ⟨rfl, rfl, rfl, trivial⟩ ?_
  exact w_does_e hX hr _ t _ ht hb

theorem w_does_12 (G : jj_G) (σ : jm) (t : Nat) (a : Int32) (x : Int64) (xh : Int32) (y : Int64) (ht : t < 85) (hb : jb ((m_do t 12 a x xh y σ).1 13 t) 7) : jm_M G yX25_does cX25_does 10 none 4 112 [jI (nI t), jI 12, jI a, jL x, jI xh, jL y] σ (m_does t 12 a x xh y σ) none := by
  refine jj_intro "BranchCellsModel" (by decide) rfl (Nat.le_of_ble_eq_true rfl) ?_
  intro X hG hX hr hN hC hF
  subst hG
  unfold m_does
  refine jj_aload_n (pc := 0) hX dX25_does_0 rfl ?_
  refine jj_getR (pc := 1) hX (x := some 14) fl_X25_38_25 dX25_does_1 rfl rfl rfl ?_
  refine jj_iload_n (pc := 4) hX dX25_does_4 rfl ?_
  refine jj_iald (pc := 5) hX t dX25_does_5 rfl rfl rfl ⟨by omega, by omega⟩ ?_
  refine jj_iconst (pc := 6) hX (v := 1) dX25_does_6 (by decide) ?_
  refine jj_iadd (pc := 7) hX dX25_does_7 ?_
  refine jj_istore (pc := 8) hX dX25_does_8 (by decide) ?_
  refine jj_iload_n (pc := 10) hX dX25_does_10 rfl ?_
  refine jj_tabIn (pc := 11) hX 291 dX25_does_11 (by decide) (by decide) rfl rfl ?_
  refine jj_iload_n (pc := 291) hX dX25_does_291 rfl ?_
  refine jj_istore (pc := 292) hX dX25_does_292 (by decide) ?_
  refine jj_goto (pc := 294) hX 458 dX25_does_294 rfl ?_
  have e9 : m_next t 12 a x σ = a := rfl
  refine jj_mem (m_do t 12 a x xh y σ) rfl rfl ?_
  rw [e9]
  refine jj_ls [(0, jR (some 0)), (1, jI (nI t)), (9, jI a)] ⟨rfl, rfl, rfl, trivial⟩ ?_
  exact w_does_e hX hr _ t _ ht hb

theorem w_does_13 (G : jj_G) (σ : jm) (t : Nat) (a : Int32) (x : Int64) (xh : Int32) (y : Int64) (ht : t < 85) (hb : jb ((m_do t 13 a x xh y σ).1 13 t) 7) : jm_M G yX25_does cX25_does 10 none 4 112 [jI (nI t), jI 13, jI a, jL x, jI xh, jL y] σ (m_does t 13 a x xh y σ) none := by
  refine jj_intro "BranchCellsModel" (by decide) rfl (Nat.le_of_ble_eq_true rfl) ?_
  intro X hG hX hr hN hC hF
  subst hG
  unfold m_does
  refine jj_aload_n (pc := 0) hX dX25_does_0 rfl ?_
  refine jj_getR (pc := 1) hX (x := some 14) fl_X25_38_25 dX25_does_1 rfl rfl rfl ?_
  refine jj_iload_n (pc := 4) hX dX25_does_4 rfl ?_
  refine jj_iald (pc := 5) hX t dX25_does_5 rfl rfl rfl ⟨by omega, by omega⟩ ?_
  refine jj_iconst (pc := 6) hX (v := 1) dX25_does_6 (by decide) ?_
  refine jj_iadd (pc := 7) hX dX25_does_7 ?_
  refine jj_istore (pc := 8) hX dX25_does_8 (by decide) ?_
  refine jj_iload_n (pc := 10) hX dX25_does_10 rfl ?_
  refine jj_tabIn (pc := 11) hX 297 dX25_does_11 (by decide) (by decide) rfl rfl ?_
  refine jj_lload (pc := 297) hX dX25_does_297 rfl ?_
  refine jj_lconst (pc := 299) hX (v := 0) dX25_does_299 (by decide) ?_
  refine jj_lcmp (pc := 300) hX dX25_does_300 ?_
  refine jj_if_ne (pc := 301) hX 308 dX25_does_301 rfl (fun h301 => ?_) (fun h301 => ?_)
  · have h301 := (not_congr (lg_cmp_eq x 0)).mp h301
    refine jj_iload (pc := 308) hX dX25_does_308 rfl ?_
    refine jj_istore (pc := 310) hX dX25_does_310 (by decide) ?_
    refine jj_goto (pc := 312) hX 458 dX25_does_312 rfl ?_
    have e9 : m_next t 13 a x σ = ((σ.1 14 t) + 1) := by unfold m_next; rw [if_neg (by decide), if_pos rfl, if_neg h301]
    refine jj_mem (m_do t 13 a x xh y σ) rfl rfl ?_
    rw [e9]
    refine jj_ls [(0, jR (some 0)), (1, jI (nI t)), (9, jI ((σ.1 14 t) + 1))] ⟨rfl, rfl, rfl, trivial⟩ ?_
    exact w_does_e hX hr _ t _ ht hb
  · have h301 := (lg_cmp_eq x 0).mp h301
    refine jj_iload_n (pc := 304) hX dX25_does_304 rfl ?_
    refine jj_goto (pc := 305) hX 310 dX25_does_305 rfl ?_
    refine jj_istore (pc := 310) hX dX25_does_310 (by decide) ?_
    refine jj_goto (pc := 312) hX 458 dX25_does_312 rfl ?_
    have e9 : m_next t 13 a x σ = a := by unfold m_next; rw [if_neg (by decide), if_pos rfl, if_pos h301]
    refine jj_mem (m_do t 13 a x xh y σ) rfl rfl ?_
    rw [e9]
    refine jj_ls [(0, jR (some 0)), (1, jI (nI t)), (9, jI a)] ⟨rfl, rfl, rfl, trivial⟩ ?_
    exact w_does_e hX hr _ t _ ht hb

theorem w_does_14 (G : jj_G) (σ : jm) (t : Nat) (a : Int32) (x : Int64) (xh : Int32) (y : Int64) (ht : t < 85) (hb : jb ((m_do t 14 a x xh y σ).1 13 t) 7) (ha : jb a 7) (hp : jb (σ.1 32 t) 11) (hh : j01 (σ.1 29 (8 * t + nv a))) : jm_M G yX25_does cX25_does 10 none 4 112 [jI (nI t), jI 14, jI a, jL x, jI xh, jL y] σ (m_does t 14 a x xh y σ) none := by
  refine jj_intro "BranchCellsModel" (by decide) rfl (Nat.le_of_ble_eq_true rfl) ?_
  intro X hG hX hr hN hC hF
  subst hG
  unfold m_does
  have ha2 := ha.2
  refine jj_aload_n (pc := 0) hX dX25_does_0 rfl ?_
  refine jj_getR (pc := 1) hX (x := some 14) fl_X25_38_25 dX25_does_1 rfl rfl rfl ?_
  refine jj_iload_n (pc := 4) hX dX25_does_4 rfl ?_
  refine jj_iald (pc := 5) hX t dX25_does_5 rfl rfl rfl ⟨by omega, by omega⟩ ?_
  refine jj_iconst (pc := 6) hX (v := 1) dX25_does_6 (by decide) ?_
  refine jj_iadd (pc := 7) hX dX25_does_7 ?_
  refine jj_istore (pc := 8) hX dX25_does_8 (by decide) ?_
  refine jj_iload_n (pc := 10) hX dX25_does_10 rfl ?_
  refine jj_tabIn (pc := 11) hX 315 dX25_does_11 (by decide) (by decide) rfl rfl ?_
  refine jj_aload_n (pc := 315) hX dX25_does_315 rfl ?_
  refine jj_iload_n (pc := 316) hX dX25_does_316 rfl ?_
  refine jj_aload_n (pc := 317) hX dX25_does_317 rfl ?_
  refine jj_getR (pc := 318) hX (x := some 28) fl_X25_81_25 dX25_does_318 rfl rfl rfl ?_
  refine jj_bipush (pc := 321) hX (v := 8) dX25_does_321 (by decide) ?_
  refine jj_iload_n (pc := 323) hX dX25_does_323 rfl ?_
  refine jj_imul (pc := 324) hX dX25_does_324 ?_
  refine jj_iload_n (pc := 325) hX dX25_does_325 rfl ?_
  refine jj_iadd (pc := 326) hX dX25_does_326 ?_
  refine jj_lald (pc := 327) hX ((8 * t) + nv a) dX25_does_327 rfl rfl (ix_add (ix_mul rfl rfl) ha.1) ⟨by omega, by omega⟩ ?_
  refine jj_aload_n (pc := 328) hX dX25_does_328 rfl ?_
  refine jj_getR (pc := 329) hX (x := some 29) fl_X25_84_25 dX25_does_329 rfl rfl rfl ?_
  refine jj_bipush (pc := 332) hX (v := 8) dX25_does_332 (by decide) ?_
  refine jj_iload_n (pc := 334) hX dX25_does_334 rfl ?_
  refine jj_imul (pc := 335) hX dX25_does_335 ?_
  refine jj_iload_n (pc := 336) hX dX25_does_336 rfl ?_
  refine jj_iadd (pc := 337) hX dX25_does_337 ?_
  refine jj_zald (pc := 338) hX ((8 * t) + nv a) dX25_does_338 rfl rfl (ix_add (ix_mul rfl rfl) ha.1) ⟨by omega, by omega⟩ ?_
  refine jj_callV (pc := 339) hX (w_push X.1 σ t _ _ ht hp hh) dX25_does_339 (lw_V q1693 q1695 qs37 q78 q1696) rfl ⟨by decide +kernel, by decide +kernel, by show _ = some (3 : Nat); decide +kernel⟩ ⟨Nat.le_of_ble_eq_true rfl, Nat.le_of_ble_eq_true rfl, Nat.le_of_ble_eq_true rfl, Nat.le_of_ble_eq_true rfl, Nat.le_of_ble_eq_true rfl⟩ (fun q => by cases q) rfl jc_25 rfl (jj_keq ?_) jj_kno
  refine jj_aload_n (pc := 342) hX dX25_does_342 rfl ?_
  refine jj_getR (pc := 343) hX (x := some 29) fl_X25_84_25 dX25_does_343 rfl rfl rfl ?_
  refine jj_bipush (pc := 346) hX (v := 8) dX25_does_346 (by decide) ?_
  refine jj_iload_n (pc := 348) hX dX25_does_348 rfl ?_
  refine jj_imul (pc := 349) hX dX25_does_349 ?_
  refine jj_iload_n (pc := 350) hX dX25_does_350 rfl ?_
  refine jj_iadd (pc := 351) hX dX25_does_351 ?_
  refine jj_zald (pc := 352) hX ((8 * t) + nv a) dX25_does_352 rfl rfl (ix_add (ix_mul rfl rfl) ha.1) ⟨by omega, by omega⟩ ?_
  refine jj_if_eq (pc := 353) hX 458 dX25_does_353 rfl (fun h353 => ?_) (fun h353 => ?_)
  · have e9 : m_next t 14 a x σ = ((σ.1 14 t) + 1) := rfl
    have e8 : m_do t 14 a x xh y σ = m_push t (σ.2 28 (8 * t + nv a)) (σ.1 29 (8 * t + nv a)) σ := by
      show m_d14 t (nv a) σ = _
      unfold m_d14
      have q9 : (m_push t (σ.2 28 (8 * t + nv a)) (σ.1 29 (8 * t + nv a)) σ).1 29 (8 * t + nv a) = σ.1 29 (8 * t + nv a) := rfl
      rw [q9] at h353
      rw [if_pos h353]
    refine jj_mem (m_do t 14 a x xh y σ) (by rw [e8]) (by rw [e8]) ?_
    rw [e9]
    refine jj_ls [(0, jR (some 0)), (1, jI (nI t)), (9, jI ((σ.1 14 t) + 1))] ⟨rfl, rfl, rfl, trivial⟩ ?_
    exact w_does_e hX hr _ t _ ht hb
  · refine jj_aload_n (pc := 356) hX dX25_does_356 rfl ?_
    refine jj_getR (pc := 357) hX (x := some 28) fl_X25_81_25 dX25_does_357 rfl rfl rfl ?_
    refine jj_bipush (pc := 360) hX (v := 8) dX25_does_360 (by decide) ?_
    refine jj_iload_n (pc := 362) hX dX25_does_362 rfl ?_
    refine jj_imul (pc := 363) hX dX25_does_363 ?_
    refine jj_iload_n (pc := 364) hX dX25_does_364 rfl ?_
    refine jj_iadd (pc := 365) hX dX25_does_365 ?_
    refine jj_lconst (pc := 366) hX (v := 0) dX25_does_366 (by decide) ?_
    refine jj_last (pc := 367) hX ((8 * t) + nv a) dX25_does_367 rfl (ix_add (ix_mul rfl rfl) ha.1) ⟨by omega, by omega⟩ ?_
    refine jj_aload_n (pc := 368) hX dX25_does_368 rfl ?_
    refine jj_getR (pc := 369) hX (x := some 29) fl_X25_84_25 dX25_does_369 rfl rfl rfl ?_
    refine jj_bipush (pc := 372) hX (v := 8) dX25_does_372 (by decide) ?_
    refine jj_iload_n (pc := 374) hX dX25_does_374 rfl ?_
    refine jj_imul (pc := 375) hX dX25_does_375 ?_
    refine jj_iload_n (pc := 376) hX dX25_does_376 rfl ?_
    refine jj_iadd (pc := 377) hX dX25_does_377 ?_
    refine jj_iconst (pc := 378) hX (v := 0) dX25_does_378 (by decide) ?_
    refine jj_zast (pc := 379) hX ((8 * t) + nv a) dX25_does_379 rfl (ix_add (ix_mul rfl rfl) ha.1) ⟨by omega, by omega⟩ (by decide) ?_
    refine jj_goto (pc := 380) hX 458 dX25_does_380 rfl ?_
    have e9 : m_next t 14 a x σ = ((σ.1 14 t) + 1) := rfl
    have e8 : m_do t 14 a x xh y σ = m_u (m_v (m_push t (σ.2 28 (8 * t + nv a)) (σ.1 29 (8 * t + nv a)) σ) 28 (8 * t + nv a) 0) 29 (8 * t + nv a) 0 := by
      show m_d14 t (nv a) σ = _
      unfold m_d14
      have q9 : (m_push t (σ.2 28 (8 * t + nv a)) (σ.1 29 (8 * t + nv a)) σ).1 29 (8 * t + nv a) = σ.1 29 (8 * t + nv a) := rfl
      rw [q9] at h353
      rw [if_neg h353]
    refine jj_mem (m_do t 14 a x xh y σ) (by rw [e8]; rfl) (by rw [e8]; rfl) ?_
    rw [e9]
    refine jj_ls [(0, jR (some 0)), (1, jI (nI t)), (9, jI ((σ.1 14 t) + 1))] ⟨rfl, rfl, rfl, trivial⟩ ?_
    exact w_does_e hX hr _ t _ ht hb

theorem w_does_15 (G : jj_G) (σ : jm) (t : Nat) (a : Int32) (x : Int64) (xh : Int32) (y : Int64) (ht : t < 85) (hb : jb ((m_do t 15 a x xh y σ).1 13 t) 7) (ha : jb a 7) (hh : j01 xh) : jm_M G yX25_does cX25_does 10 none 4 112 [jI (nI t), jI 15, jI a, jL x, jI xh, jL y] σ (m_does t 15 a x xh y σ) none := by
  refine jj_intro "BranchCellsModel" (by decide) rfl (Nat.le_of_ble_eq_true rfl) ?_
  intro X hG hX hr hN hC hF
  subst hG
  unfold m_does
  have ha2 := ha.2
  refine jj_aload_n (pc := 0) hX dX25_does_0 rfl ?_
  refine jj_getR (pc := 1) hX (x := some 14) fl_X25_38_25 dX25_does_1 rfl rfl rfl ?_
  refine jj_iload_n (pc := 4) hX dX25_does_4 rfl ?_
  refine jj_iald (pc := 5) hX t dX25_does_5 rfl rfl rfl ⟨by omega, by omega⟩ ?_
  refine jj_iconst (pc := 6) hX (v := 1) dX25_does_6 (by decide) ?_
  refine jj_iadd (pc := 7) hX dX25_does_7 ?_
  refine jj_istore (pc := 8) hX dX25_does_8 (by decide) ?_
  refine jj_iload_n (pc := 10) hX dX25_does_10 rfl ?_
  refine jj_tabIn (pc := 11) hX 383 dX25_does_11 (by decide) (by decide) rfl rfl ?_
  refine jj_aload_n (pc := 383) hX dX25_does_383 rfl ?_
  refine jj_getR (pc := 384) hX (x := some 28) fl_X25_81_25 dX25_does_384 rfl rfl rfl ?_
  refine jj_bipush (pc := 387) hX (v := 8) dX25_does_387 (by decide) ?_
  refine jj_iload_n (pc := 389) hX dX25_does_389 rfl ?_
  refine jj_imul (pc := 390) hX dX25_does_390 ?_
  refine jj_iload_n (pc := 391) hX dX25_does_391 rfl ?_
  refine jj_iadd (pc := 392) hX dX25_does_392 ?_
  refine jj_lload (pc := 393) hX dX25_does_393 rfl ?_
  refine jj_last (pc := 395) hX ((8 * t) + nv a) dX25_does_395 rfl (ix_add (ix_mul rfl rfl) ha.1) ⟨by omega, by omega⟩ ?_
  refine jj_aload_n (pc := 396) hX dX25_does_396 rfl ?_
  refine jj_getR (pc := 397) hX (x := some 29) fl_X25_84_25 dX25_does_397 rfl rfl rfl ?_
  refine jj_bipush (pc := 400) hX (v := 8) dX25_does_400 (by decide) ?_
  refine jj_iload_n (pc := 402) hX dX25_does_402 rfl ?_
  refine jj_imul (pc := 403) hX dX25_does_403 ?_
  refine jj_iload_n (pc := 404) hX dX25_does_404 rfl ?_
  refine jj_iadd (pc := 405) hX dX25_does_405 ?_
  refine jj_iload (pc := 406) hX dX25_does_406 rfl ?_
  refine jj_zast (pc := 408) hX ((8 * t) + nv a) dX25_does_408 rfl (ix_add (ix_mul rfl rfl) ha.1) ⟨by omega, by omega⟩ hh ?_
  refine jj_goto (pc := 409) hX 458 dX25_does_409 rfl ?_
  have e9 : m_next t 15 a x σ = ((σ.1 14 t) + 1) := rfl
  refine jj_mem (m_do t 15 a x xh y σ) rfl rfl ?_
  rw [e9]
  refine jj_ls [(0, jR (some 0)), (1, jI (nI t)), (9, jI ((σ.1 14 t) + 1))] ⟨rfl, rfl, rfl, trivial⟩ ?_
  exact w_does_e hX hr _ t _ ht hb

theorem w_does_16 (G : jj_G) (σ : jm) (t : Nat) (a : Int32) (x : Int64) (xh : Int32) (y : Int64) (ht : t < 85) (hb : jb ((m_do t 16 a x xh y σ).1 13 t) 7) : jm_M G yX25_does cX25_does 10 none 4 112 [jI (nI t), jI 16, jI a, jL x, jI xh, jL y] σ (m_does t 16 a x xh y σ) none := by
  refine jj_intro "BranchCellsModel" (by decide) rfl (Nat.le_of_ble_eq_true rfl) ?_
  intro X hG hX hr hN hC hF
  subst hG
  unfold m_does
  refine jj_aload_n (pc := 0) hX dX25_does_0 rfl ?_
  refine jj_getR (pc := 1) hX (x := some 14) fl_X25_38_25 dX25_does_1 rfl rfl rfl ?_
  refine jj_iload_n (pc := 4) hX dX25_does_4 rfl ?_
  refine jj_iald (pc := 5) hX t dX25_does_5 rfl rfl rfl ⟨by omega, by omega⟩ ?_
  refine jj_iconst (pc := 6) hX (v := 1) dX25_does_6 (by decide) ?_
  refine jj_iadd (pc := 7) hX dX25_does_7 ?_
  refine jj_istore (pc := 8) hX dX25_does_8 (by decide) ?_
  refine jj_iload_n (pc := 10) hX dX25_does_10 rfl ?_
  refine jj_tabIn (pc := 11) hX 458 dX25_does_11 (by decide) (by decide) rfl rfl ?_
  have e9 : m_next t 16 a x σ = ((σ.1 14 t) + 1) := rfl
  refine jj_mem (m_do t 16 a x xh y σ) rfl rfl ?_
  rw [e9]
  refine jj_ls [(0, jR (some 0)), (1, jI (nI t)), (9, jI ((σ.1 14 t) + 1))] ⟨rfl, rfl, rfl, trivial⟩ ?_
  exact w_does_e hX hr _ t _ ht hb

theorem w_does_17 (G : jj_G) (σ : jm) (t : Nat) (a : Int32) (x : Int64) (xh : Int32) (y : Int64) (ht : t < 85) (hb : jb ((m_do t 17 a x xh y σ).1 13 t) 7) (ha : jb a 7) (hp : jb (σ.1 32 t) 11) (hh : j01 xh) (hs : jb (σ.1 0 36) 167) (hT : jb (σ.1 0 11) 84) (htT : t < nv (σ.1 0 11)) : jm_M G yX25_does cX25_does 10 none 4 112 [jI (nI t), jI 17, jI a, jL x, jI xh, jL y] σ (m_does t 17 a x xh y σ) none := by
  refine jj_intro "BranchCellsModel" (by decide) rfl (Nat.le_of_ble_eq_true rfl) ?_
  intro X hG hX hr hN hC hF
  subst hG
  unfold m_does
  have ha2 := ha.2
  refine jj_aload_n (pc := 0) hX dX25_does_0 rfl ?_
  refine jj_getR (pc := 1) hX (x := some 14) fl_X25_38_25 dX25_does_1 rfl rfl rfl ?_
  refine jj_iload_n (pc := 4) hX dX25_does_4 rfl ?_
  refine jj_iald (pc := 5) hX t dX25_does_5 rfl rfl rfl ⟨by omega, by omega⟩ ?_
  refine jj_iconst (pc := 6) hX (v := 1) dX25_does_6 (by decide) ?_
  refine jj_iadd (pc := 7) hX dX25_does_7 ?_
  refine jj_istore (pc := 8) hX dX25_does_8 (by decide) ?_
  refine jj_iload_n (pc := 10) hX dX25_does_10 rfl ?_
  refine jj_tabIn (pc := 11) hX 412 dX25_does_11 (by decide) (by decide) rfl rfl ?_
  refine jj_aload_n (pc := 412) hX dX25_does_412 rfl ?_
  refine jj_iload_n (pc := 413) hX dX25_does_413 rfl ?_
  refine jj_iload_n (pc := 414) hX dX25_does_414 rfl ?_
  refine jj_lload (pc := 415) hX dX25_does_415 rfl ?_
  refine jj_iload (pc := 417) hX dX25_does_417 rfl ?_
  refine jj_callV (pc := 419) hX (w_forkAt X.1 σ t a x xh ht hs hT htT ha hp hh) dX25_does_419 (lw_V q1705 q1707 qs40 q78 q1708) rfl ⟨by decide +kernel, by decide +kernel, by show _ = some (4 : Nat); decide +kernel⟩ ⟨Nat.le_of_ble_eq_true rfl, Nat.le_of_ble_eq_true rfl, Nat.le_of_ble_eq_true rfl, Nat.le_of_ble_eq_true rfl, Nat.le_of_ble_eq_true rfl⟩ (fun q => by cases q) rfl jc_25 rfl (jj_keq ?_) jj_kno
  refine jj_goto (pc := 422) hX 458 dX25_does_422 rfl ?_
  have e9 : m_next t 17 a x σ = ((σ.1 14 t) + 1) := rfl
  refine jj_mem (m_do t 17 a x xh y σ) rfl rfl ?_
  rw [e9]
  refine jj_ls [(0, jR (some 0)), (1, jI (nI t)), (9, jI ((σ.1 14 t) + 1))] ⟨rfl, rfl, rfl, trivial⟩ ?_
  exact w_does_e hX hr _ t _ ht hb

theorem w_does_18 (G : jj_G) (σ : jm) (t : Nat) (a : Int32) (x : Int64) (xh : Int32) (y : Int64) (ht : t < 85) (hb : jb ((m_do t 18 a x xh y σ).1 13 t) 7) (ha : jb x.toInt32 84) (hp : jb (σ.1 32 t) 11) (hto : nv x.toInt32 ≠ t) (hot : jb (σ.1 34 t) 60) (hoo : jb (σ.1 34 (nv x.toInt32)) 60) (hrh : j01 (σ.1 27 (nv x.toInt32))) (hj : m_jh t (nv x.toInt32) σ) : jm_M G yX25_does cX25_does 10 none 4 112 [jI (nI t), jI 18, jI a, jL x, jI xh, jL y] σ (m_does t 18 a x xh y σ) none := by
  refine jj_intro "BranchCellsModel" (by decide) rfl (Nat.le_of_ble_eq_true rfl) ?_
  intro X hG hX hr hN hC hF
  subst hG
  unfold m_does
  have ha2 := ha.2
  refine jj_aload_n (pc := 0) hX dX25_does_0 rfl ?_
  refine jj_getR (pc := 1) hX (x := some 14) fl_X25_38_25 dX25_does_1 rfl rfl rfl ?_
  refine jj_iload_n (pc := 4) hX dX25_does_4 rfl ?_
  refine jj_iald (pc := 5) hX t dX25_does_5 rfl rfl rfl ⟨by omega, by omega⟩ ?_
  refine jj_iconst (pc := 6) hX (v := 1) dX25_does_6 (by decide) ?_
  refine jj_iadd (pc := 7) hX dX25_does_7 ?_
  refine jj_istore (pc := 8) hX dX25_does_8 (by decide) ?_
  refine jj_iload_n (pc := 10) hX dX25_does_10 rfl ?_
  refine jj_tabIn (pc := 11) hX 425 dX25_does_11 (by decide) (by decide) rfl rfl ?_
  refine jj_aload_n (pc := 425) hX dX25_does_425 rfl ?_
  refine jj_iload_n (pc := 426) hX dX25_does_426 rfl ?_
  refine jj_lload (pc := 427) hX dX25_does_427 rfl ?_
  refine jj_l2i (pc := 429) hX dX25_does_429 ?_
  refine jj_top (nI (nv x.toInt32)) ha.1 ?_
  refine jj_callV (pc := 430) hX (w_joins X.1 σ t _ ht (Nat.lt_succ_of_le ha.2) hto hot hoo hp hrh hj) dX25_does_430 (lw_V q1709 q1711 qs41 q78 q1712) rfl ⟨by decide +kernel, by decide +kernel, by show _ = some (2 : Nat); decide +kernel⟩ ⟨Nat.le_of_ble_eq_true rfl, Nat.le_of_ble_eq_true rfl, Nat.le_of_ble_eq_true rfl, Nat.le_of_ble_eq_true rfl, Nat.le_of_ble_eq_true rfl⟩ (fun q => by cases q) rfl jc_25 rfl (jj_keq ?_) jj_kno
  refine jj_goto (pc := 433) hX 458 dX25_does_433 rfl ?_
  have e9 : m_next t 18 a x σ = ((σ.1 14 t) + 1) := rfl
  refine jj_mem (m_do t 18 a x xh y σ) rfl rfl ?_
  rw [e9]
  refine jj_ls [(0, jR (some 0)), (1, jI (nI t)), (9, jI ((σ.1 14 t) + 1))] ⟨rfl, rfl, rfl, trivial⟩ ?_
  exact w_does_e hX hr _ t _ ht hb

theorem w_does_19 (G : jj_G) (σ : jm) (t : Nat) (a : Int32) (x : Int64) (xh : Int32) (y : Int64) (ht : t < 85) (hb : jb ((m_do t 19 a x xh y σ).1 13 t) 7) (ho : jb (σ.1 34 t) 60) : jm_M G yX25_does cX25_does 10 none 4 112 [jI (nI t), jI 19, jI a, jL x, jI xh, jL y] σ (m_does t 19 a x xh y σ) none := by
  refine jj_intro "BranchCellsModel" (by decide) rfl (Nat.le_of_ble_eq_true rfl) ?_
  intro X hG hX hr hN hC hF
  subst hG
  unfold m_does
  refine jj_aload_n (pc := 0) hX dX25_does_0 rfl ?_
  refine jj_getR (pc := 1) hX (x := some 14) fl_X25_38_25 dX25_does_1 rfl rfl rfl ?_
  refine jj_iload_n (pc := 4) hX dX25_does_4 rfl ?_
  refine jj_iald (pc := 5) hX t dX25_does_5 rfl rfl rfl ⟨by omega, by omega⟩ ?_
  refine jj_iconst (pc := 6) hX (v := 1) dX25_does_6 (by decide) ?_
  refine jj_iadd (pc := 7) hX dX25_does_7 ?_
  refine jj_istore (pc := 8) hX dX25_does_8 (by decide) ?_
  refine jj_iload_n (pc := 10) hX dX25_does_10 rfl ?_
  refine jj_tabIn (pc := 11) hX 436 dX25_does_11 (by decide) (by decide) rfl rfl ?_
  refine jj_aload_n (pc := 436) hX dX25_does_436 rfl ?_
  refine jj_iload_n (pc := 437) hX dX25_does_437 rfl ?_
  refine jj_lload (pc := 438) hX dX25_does_438 rfl ?_
  refine jj_callV (pc := 440) hX (w_tellOut X.1 σ t x ht ho) dX25_does_440 (lw_V q1713 q1715 qs42 q78 q1716) rfl ⟨by decide +kernel, by decide +kernel, by show _ = some (2 : Nat); decide +kernel⟩ ⟨Nat.le_of_ble_eq_true rfl, Nat.le_of_ble_eq_true rfl, Nat.le_of_ble_eq_true rfl, Nat.le_of_ble_eq_true rfl, Nat.le_of_ble_eq_true rfl⟩ (fun q => by cases q) rfl jc_25 rfl (jj_keq ?_) jj_kno
  refine jj_goto (pc := 443) hX 458 dX25_does_443 rfl ?_
  have e9 : m_next t 19 a x σ = ((σ.1 14 t) + 1) := rfl
  refine jj_mem (m_do t 19 a x xh y σ) rfl rfl ?_
  rw [e9]
  refine jj_ls [(0, jR (some 0)), (1, jI (nI t)), (9, jI ((σ.1 14 t) + 1))] ⟨rfl, rfl, rfl, trivial⟩ ?_
  exact w_does_e hX hr _ t _ ht hb

theorem w_does_20 (G : jj_G) (σ : jm) (t : Nat) (a : Int32) (x : Int64) (xh : Int32) (y : Int64) (ht : t < 85) (hb : jb ((m_do t 20 a x xh y σ).1 13 t) 7) (hh : j01 xh) : jm_M G yX25_does cX25_does 10 none 4 112 [jI (nI t), jI 20, jI a, jL x, jI xh, jL y] σ (m_does t 20 a x xh y σ) none := by
  refine jj_intro "BranchCellsModel" (by decide) rfl (Nat.le_of_ble_eq_true rfl) ?_
  intro X hG hX hr hN hC hF
  subst hG
  unfold m_does
  refine jj_aload_n (pc := 0) hX dX25_does_0 rfl ?_
  refine jj_getR (pc := 1) hX (x := some 14) fl_X25_38_25 dX25_does_1 rfl rfl rfl ?_
  refine jj_iload_n (pc := 4) hX dX25_does_4 rfl ?_
  refine jj_iald (pc := 5) hX t dX25_does_5 rfl rfl rfl ⟨by omega, by omega⟩ ?_
  refine jj_iconst (pc := 6) hX (v := 1) dX25_does_6 (by decide) ?_
  refine jj_iadd (pc := 7) hX dX25_does_7 ?_
  refine jj_istore (pc := 8) hX dX25_does_8 (by decide) ?_
  refine jj_iload_n (pc := 10) hX dX25_does_10 rfl ?_
  refine jj_tabIn (pc := 11) hX 446 dX25_does_11 (by decide) (by decide) rfl rfl ?_
  refine jj_aload_n (pc := 446) hX dX25_does_446 rfl ?_
  refine jj_iload_n (pc := 447) hX dX25_does_447 rfl ?_
  refine jj_lload (pc := 448) hX dX25_does_448 rfl ?_
  refine jj_iload (pc := 450) hX dX25_does_450 rfl ?_
  refine jj_callV (pc := 452) hX (w_ends X.1 σ t x xh ht hh) dX25_does_452 (lw_V q1647 q1649 qs29 q78 q1650) rfl ⟨by decide +kernel, by decide +kernel, by show _ = some (3 : Nat); decide +kernel⟩ ⟨Nat.le_of_ble_eq_true rfl, Nat.le_of_ble_eq_true rfl, Nat.le_of_ble_eq_true rfl, Nat.le_of_ble_eq_true rfl, Nat.le_of_ble_eq_true rfl⟩ (fun q => by cases q) rfl jc_25 rfl (jj_keq ?_) jj_kno
  refine jj_goto (pc := 455) hX 458 dX25_does_455 rfl ?_
  have e9 : m_next t 20 a x σ = ((σ.1 14 t) + 1) := rfl
  refine jj_mem (m_do t 20 a x xh y σ) rfl rfl ?_
  rw [e9]
  refine jj_ls [(0, jR (some 0)), (1, jI (nI t)), (9, jI ((σ.1 14 t) + 1))] ⟨rfl, rfl, rfl, trivial⟩ ?_
  exact w_does_e hX hr _ t _ ht hb
