set_option maxRecDepth 100000
theorem w_os_p {X : jj_X} (hX : jj_ok X cX25_oneStep "BranchCellsModel" 15 5 141 0 0) (hr : jj_Ret X none) (σ : jm) (t : Nat) (op : Int32) (ht : t < 85) (hb : jb (σ.1 13 t) 7) (hpl : jb (σ.1 14 t) 39) (hop : m_op t σ = op) (σe : jm) (he : ¬ (m_s1 t op σ).1 17 t ≤ 200 → σe = m_fails t 6 (m_s1 t op σ)) (K : (m_s1 t op σ).1 17 t ≤ 200 → jj_J X (jj_End X (jj_eq none jm_T σe.1 σe.2 jm_R) jj_no 0 0) 0 0 91 [(0, jR (some 0)), (1, jI (nI t)), (3, jI op), (4, jI (m_oa t σ))] [] jm_T (m_s1 t op σ).1 (m_s1 t op σ).2 jm_R) : jj_J X (jj_End X (jj_eq none jm_T σe.1 σe.2 jm_R) jj_no 0 0) 0 0 0 [(0, jR (some 0)), (1, jI (nI t))] [] jm_T σ.1 σ.2 jm_R := by
  subst hop
  have hb2 := hb.2
  have hpl2 := hpl.2
  refine jj_bipush (pc := 0) hX (v := 40) dX25_oneStep_0 (by decide) ?_
  refine jj_aload_n (pc := 2) hX dX25_oneStep_2 rfl ?_
  refine jj_getR (pc := 3) hX (x := some 13) fl_X25_35_25 dX25_oneStep_3 rfl rfl rfl ?_
  refine jj_iload_n (pc := 6) hX dX25_oneStep_6 rfl ?_
  refine jj_iald (pc := 7) hX t dX25_oneStep_7 rfl rfl rfl ⟨by omega, by omega⟩ ?_
  refine jj_imul (pc := 8) hX dX25_oneStep_8 ?_
  refine jj_aload_n (pc := 9) hX dX25_oneStep_9 rfl ?_
  refine jj_getR (pc := 10) hX (x := some 14) fl_X25_38_25 dX25_oneStep_10 rfl rfl rfl ?_
  refine jj_iload_n (pc := 13) hX dX25_oneStep_13 rfl ?_
  refine jj_iald (pc := 14) hX t dX25_oneStep_14 rfl rfl rfl ⟨by omega, by omega⟩ ?_
  refine jj_iadd (pc := 15) hX dX25_oneStep_15 ?_
  refine jj_istore_n (pc := 16) hX dX25_oneStep_16 (by decide) ?_
  refine jj_aload_n (pc := 17) hX dX25_oneStep_17 rfl ?_
  refine jj_getR (pc := 18) hX (x := some 3) fl_X25_13_25 dX25_oneStep_18 rfl rfl rfl ?_
  refine jj_iload_n (pc := 21) hX dX25_oneStep_21 rfl ?_
  refine jj_iald (pc := 22) hX ((40 * nv (σ.1 13 t)) + nv (σ.1 14 t)) dX25_oneStep_22 rfl rfl (ix_add (ix_mul rfl hb.1) hpl.1) ⟨by omega, by omega⟩ ?_
  refine jj_istore_n (pc := 23) hX dX25_oneStep_23 (by decide) ?_
  refine jj_aload_n (pc := 24) hX dX25_oneStep_24 rfl ?_
  refine jj_getR (pc := 25) hX (x := some 4) fl_X25_16_25 dX25_oneStep_25 rfl rfl rfl ?_
  refine jj_iload_n (pc := 28) hX dX25_oneStep_28 rfl ?_
  refine jj_iald (pc := 29) hX ((40 * nv (σ.1 13 t)) + nv (σ.1 14 t)) dX25_oneStep_29 rfl rfl (ix_add (ix_mul rfl hb.1) hpl.1) ⟨by omega, by omega⟩ ?_
  refine jj_istore (pc := 30) hX dX25_oneStep_30 (by decide) ?_
  refine jj_aload_n (pc := 32) hX dX25_oneStep_32 rfl ?_
  refine jj_getR (pc := 33) hX (x := some 17) fl_X25_47_25 dX25_oneStep_33 rfl rfl rfl ?_
  refine jj_iload_n (pc := 36) hX dX25_oneStep_36 rfl ?_
  refine jj_dup2 (pc := 37) hX dX25_oneStep_37 rfl rfl ?_
  refine jj_iald (pc := 38) hX t dX25_oneStep_38 rfl rfl rfl ⟨by omega, by omega⟩ ?_
  refine jj_iconst (pc := 39) hX (v := 1) dX25_oneStep_39 (by decide) ?_
  refine jj_iadd (pc := 40) hX dX25_oneStep_40 ?_
  refine jj_iast (pc := 41) hX t dX25_oneStep_41 rfl rfl ⟨by omega, by omega⟩ ?_
  refine jj_aload_n (pc := 42) hX dX25_oneStep_42 rfl ?_
  refine jj_dup (pc := 43) hX dX25_oneStep_43 rfl ?_
  refine jj_getI (pc := 44) hX fl_X25_173_25 dX25_oneStep_44 rfl rfl ?_
  refine jj_iconst (pc := 47) hX (v := 1) dX25_oneStep_47 (by decide) ?_
  refine jj_iadd (pc := 48) hX dX25_oneStep_48 ?_
  refine jj_putI (pc := 49) hX fl_X25_173_25 dX25_oneStep_49 rfl rfl rfl ?_
  refine jj_aload_n (pc := 52) hX dX25_oneStep_52 rfl ?_
  refine jj_getR (pc := 53) hX (x := some 24) fl_X25_68_25 dX25_oneStep_53 rfl rfl rfl ?_
  refine jj_iload_n (pc := 56) hX dX25_oneStep_56 rfl ?_
  refine jj_ldc2 (pc := 57) hX (v := 31) q1676 dX25_oneStep_57 ?_
  refine jj_aload_n (pc := 60) hX dX25_oneStep_60 rfl ?_
  refine jj_getR (pc := 61) hX (x := some 24) fl_X25_68_25 dX25_oneStep_61 rfl rfl rfl ?_
  refine jj_iload_n (pc := 64) hX dX25_oneStep_64 rfl ?_
  refine jj_lald (pc := 65) hX t dX25_oneStep_65 rfl rfl rfl ⟨by omega, by omega⟩ ?_
  refine jj_lmul (pc := 66) hX dX25_oneStep_66 ?_
  refine jj_iload_n (pc := 67) hX dX25_oneStep_67 rfl ?_
  refine jj_i2l (pc := 68) hX dX25_oneStep_68 ?_
  refine jj_ladd (pc := 69) hX dX25_oneStep_69 ?_
  refine jj_last (pc := 70) hX t dX25_oneStep_70 rfl rfl ⟨by omega, by omega⟩ ?_
  refine jj_aload_n (pc := 71) hX dX25_oneStep_71 rfl ?_
  refine jj_getR (pc := 72) hX (x := some 17) fl_X25_47_25 dX25_oneStep_72 rfl rfl rfl ?_
  refine jj_iload_n (pc := 75) hX dX25_oneStep_75 rfl ?_
  refine jj_iald (pc := 76) hX t dX25_oneStep_76 rfl rfl rfl ⟨by omega, by omega⟩ ?_
  refine jj_sipush (pc := 77) hX (v := 200) dX25_oneStep_77 (by decide) ?_
  refine jj_icmp_le (pc := 80) hX 91 dX25_oneStep_80 rfl (fun h80 => ?_) (fun h80 => ?_)
  · refine jj_mem (m_s1 t (m_op t σ) σ) rfl rfl ?_
    refine jj_ls [(0, jR (some 0)), (1, jI (nI t)), (3, jI (m_op t σ)), (4, jI (m_oa t σ))] ⟨rfl, rfl, rfl, rfl, trivial⟩ ?_
    exact K h80
  · refine jj_aload_n (pc := 83) hX dX25_oneStep_83 rfl ?_
    refine jj_iload_n (pc := 84) hX dX25_oneStep_84 rfl ?_
    refine jj_bipush (pc := 85) hX (v := 6) dX25_oneStep_85 (by decide) ?_
    rw [he h80]
    refine jj_mem (m_s1 t (m_op t σ) σ) rfl rfl ?_
    refine jj_callV (pc := 87) hX (w_fails X.1 (m_s1 t (m_op t σ) σ) t _ ht) dX25_oneStep_87 (lw_V q1677 q1679 qs34 q78 q1680) rfl ⟨by decide +kernel, by decide +kernel, by show _ = some (2 : Nat); decide +kernel⟩ ⟨Nat.le_of_ble_eq_true rfl, Nat.le_of_ble_eq_true rfl, Nat.le_of_ble_eq_true rfl, Nat.le_of_ble_eq_true rfl, Nat.le_of_ble_eq_true rfl⟩ (fun q => by cases q) rfl jc_25 rfl (jj_keq ?_) jj_kno
    exact jj_vret (pc := 90) hX dX25_oneStep_90 hr ⟨Nat.le_refl _, Nat.le_refl _⟩ (⟨rfl, rfl, rfl, rfl, rfl⟩)

theorem w_os_g0 {X : jj_X} (hX : jj_ok X cX25_oneStep "BranchCellsModel" 15 5 141 0 0) (hr : jj_Ret X none) (σ : jm) (t : Nat) (a : Int32) (ht : t < 85) (hp : jb (σ.1 32 t) 12) (j : Nat) (hj : j ≤ 21) (htk : m_tk j = 0) (n15 : ¬ nI j = 15) (n16 : ¬ nI j = 16) (n17 : ¬ nI j = 17) (n20 : ¬ nI j = 20) (n18 : ¬ nI j = 18) (e9 : m_s4 t j a σ = (m_s3 t j a 0 0 0 0 σ)) (hD : m_fault t j a 0 0 (m_s2 t 0 σ) ≤ 0 → jm_M X.1 yX25_does cX25_does 10 none 4 112 [jI (nI t), jI (nI j), jI a, jL 0, jI 0, jL 0] (m_s2 t 0 σ) (m_does t j a 0 0 0 (m_s2 t 0 σ)) none) : jj_J X (jj_End X (jj_eq none jm_T (m_s5 t j a σ).1 (m_s5 t j a σ).2 jm_R) jj_no 0 0) 0 0 91 [(0, jR (some 0)), (1, jI (nI t)), (3, jI (nI j)), (4, jI a)] [] jm_T σ.1 σ.2 jm_R := by
  have hp2 := hp.2
  refine jj_iload_n (pc := 91) hX dX25_oneStep_91 rfl ?_
  refine jj_callS (pc := 92) hX (w_taken X.1 j hj _ _ _ _) dX25_oneStep_92 (lw_S q1681 q1682 q78 q1683) ⟨by decide +kernel, by decide +kernel, by show _ = some (1 : Nat); decide +kernel⟩ ⟨Nat.le_of_ble_eq_true rfl, Nat.le_of_ble_eq_true rfl, Nat.le_of_ble_eq_true rfl, Nat.le_of_ble_eq_true rfl, Nat.le_of_ble_eq_true rfl⟩ (fun q => by cases q) rfl (jj_keq ?_) jj_kno
  refine jj_top 0 (by rw [htk]; rfl) ?_
  refine jj_istore (pc := 95) hX dX25_oneStep_95 (by decide) ?_
  refine jj_aload_n (pc := 97) hX dX25_oneStep_97 rfl ?_
  refine jj_getR (pc := 98) hX (x := some 32) fl_X25_93_25 dX25_oneStep_98 rfl rfl rfl ?_
  refine jj_iload_n (pc := 101) hX dX25_oneStep_101 rfl ?_
  refine jj_iald (pc := 102) hX t dX25_oneStep_102 rfl rfl rfl ⟨by omega, by omega⟩ ?_
  refine jj_iload (pc := 103) hX dX25_oneStep_103 rfl ?_
  refine jj_icmp_ge (pc := 105) hX 116 dX25_oneStep_105 rfl (fun h105 => ?_) (fun h105 => ?_)
  · have e10 : (m_s5 t j a σ) = m_s4 t j a σ := by unfold m_s5; rw [htk]; exact if_pos h105
    have h9 := jb_ge hp (c := 0) (m := 0) rfl (by decide) (by decide) h105
    refine jj_bipush (pc := 116) hX (v := 12) dX25_oneStep_116 (by decide) ?_
    refine jj_iload_n (pc := 118) hX dX25_oneStep_118 rfl ?_
    refine jj_imul (pc := 119) hX dX25_oneStep_119 ?_
    refine jj_aload_n (pc := 120) hX dX25_oneStep_120 rfl ?_
    refine jj_getR (pc := 121) hX (x := some 32) fl_X25_93_25 dX25_oneStep_121 rfl rfl rfl ?_
    refine jj_iload_n (pc := 124) hX dX25_oneStep_124 rfl ?_
    refine jj_iald (pc := 125) hX t dX25_oneStep_125 rfl rfl rfl ⟨by omega, by omega⟩ ?_
    refine jj_iadd (pc := 126) hX dX25_oneStep_126 ?_
    refine jj_iload (pc := 127) hX dX25_oneStep_127 rfl ?_
    refine jj_isub (pc := 129) hX dX25_oneStep_129 ?_
    refine jj_istore (pc := 130) hX dX25_oneStep_130 (by decide) ?_
    refine jj_iload (pc := 132) hX dX25_oneStep_132 rfl ?_
    refine jj_if_le (pc := 134) hX 147 dX25_oneStep_134 rfl (fun _ => ?_) (fun q => absurd (by decide) q)
    refine jj_lconst (pc := 147) hX (v := 0) dX25_oneStep_147 (by decide) ?_
    refine jj_lstore (pc := 148) hX dX25_oneStep_148 (by decide) ?_
    refine jj_iload (pc := 150) hX dX25_oneStep_150 rfl ?_
    refine jj_if_le (pc := 152) hX 169 dX25_oneStep_152 rfl (fun _ => ?_) (fun q => absurd (by decide) q)
    refine jj_iconst (pc := 169) hX (v := 0) dX25_oneStep_169 (by decide) ?_
    refine jj_istore (pc := 170) hX dX25_oneStep_170 (by decide) ?_
    refine jj_iload (pc := 172) hX dX25_oneStep_172 rfl ?_
    refine jj_iconst (pc := 174) hX (v := 1) dX25_oneStep_174 (by decide) ?_
    refine jj_icmp_le (pc := 175) hX 190 dX25_oneStep_175 rfl (fun _ => ?_) (fun q => absurd (by decide) q)
    refine jj_lconst (pc := 190) hX (v := 0) dX25_oneStep_190 (by decide) ?_
    refine jj_lstore (pc := 191) hX dX25_oneStep_191 (by decide) ?_
    refine jj_iload (pc := 193) hX dX25_oneStep_193 rfl ?_
    refine jj_iconst (pc := 195) hX (v := 1) dX25_oneStep_195 (by decide) ?_
    refine jj_icmp_le (pc := 196) hX 215 dX25_oneStep_196 rfl (fun _ => ?_) (fun q => absurd (by decide) q)
    refine jj_iconst (pc := 215) hX (v := 0) dX25_oneStep_215 (by decide) ?_
    refine jj_istore (pc := 216) hX dX25_oneStep_216 (by decide) ?_
    refine jj_aload_n (pc := 218) hX dX25_oneStep_218 rfl ?_
    refine jj_getR (pc := 219) hX (x := some 32) fl_X25_93_25 dX25_oneStep_219 rfl rfl rfl ?_
    refine jj_iload_n (pc := 222) hX dX25_oneStep_222 rfl ?_
    refine jj_dup2 (pc := 223) hX dX25_oneStep_223 rfl rfl ?_
    refine jj_iald (pc := 224) hX t dX25_oneStep_224 rfl rfl rfl ⟨by omega, by omega⟩ ?_
    refine jj_iload (pc := 225) hX dX25_oneStep_225 rfl ?_
    refine jj_isub (pc := 227) hX dX25_oneStep_227 ?_
    refine jj_iast (pc := 228) hX t dX25_oneStep_228 rfl rfl ⟨by omega, by omega⟩ ?_
    refine jj_mem (m_s2 t 0 σ) rfl rfl ?_
    refine jj_iload_n (pc := 229) hX dX25_oneStep_229 rfl ?_
    refine jj_bipush (pc := 230) hX (v := 15) dX25_oneStep_230 (by decide) ?_
    refine jj_icmp_eq (pc := 232) hX 253 dX25_oneStep_232 rfl (fun q => absurd q n15) (fun _ => ?_)
    refine jj_iload_n (pc := 235) hX dX25_oneStep_235 rfl ?_
    refine jj_bipush (pc := 236) hX (v := 16) dX25_oneStep_236 (by decide) ?_
    refine jj_icmp_eq (pc := 238) hX 253 dX25_oneStep_238 rfl (fun q => absurd q n16) (fun _ => ?_)
    refine jj_iload_n (pc := 241) hX dX25_oneStep_241 rfl ?_
    refine jj_bipush (pc := 242) hX (v := 17) dX25_oneStep_242 (by decide) ?_
    refine jj_icmp_eq (pc := 244) hX 253 dX25_oneStep_244 rfl (fun q => absurd q n17) (fun _ => ?_)
    refine jj_iload_n (pc := 247) hX dX25_oneStep_247 rfl ?_
    refine jj_bipush (pc := 248) hX (v := 20) dX25_oneStep_248 (by decide) ?_
    refine jj_icmp_ne (pc := 250) hX 257 dX25_oneStep_250 rfl (fun _ => ?_) (fun q => absurd q n20)
    refine jj_iconst (pc := 257) hX (v := 0) dX25_oneStep_257 (by decide) ?_
    refine jj_istore (pc := 258) hX dX25_oneStep_258 (by decide) ?_
    refine jj_iload (pc := 260) hX dX25_oneStep_260 rfl ?_
    refine jj_iconst (pc := 262) hX (v := 1) dX25_oneStep_262 (by decide) ?_
    refine jj_icmp_le (pc := 263) hX 271 dX25_oneStep_263 rfl (fun _ => ?_) (fun q => absurd (by decide) q)
    refine jj_iload (pc := 271) hX dX25_oneStep_271 rfl ?_
    refine jj_if_le (pc := 273) hX 304 dX25_oneStep_273 rfl (fun _ => ?_) (fun q => absurd (by decide) q)
    refine jj_aload_n (pc := 304) hX dX25_oneStep_304 rfl ?_
    refine jj_iload_n (pc := 305) hX dX25_oneStep_305 rfl ?_
    refine jj_iload_n (pc := 306) hX dX25_oneStep_306 rfl ?_
    refine jj_iload (pc := 307) hX dX25_oneStep_307 rfl ?_
    refine jj_lload (pc := 309) hX dX25_oneStep_309 rfl ?_
    refine jj_lload (pc := 311) hX dX25_oneStep_311 rfl ?_
    refine jj_callV (pc := 313) hX (w_faultOf X.1 (m_s2 t 0 σ) t j _ _ _ ht hj) dX25_oneStep_313 (lw_V q1684 q1686 qs35 q78 q1687) rfl ⟨by decide +kernel, by decide +kernel, by show _ = some (5 : Nat); decide +kernel⟩ ⟨Nat.le_of_ble_eq_true rfl, Nat.le_of_ble_eq_true rfl, Nat.le_of_ble_eq_true rfl, Nat.le_of_ble_eq_true rfl, Nat.le_of_ble_eq_true rfl⟩ (fun q => by cases q) rfl jc_25 rfl (jj_keq ?_) jj_kno
    refine jj_istore (pc := 316) hX dX25_oneStep_316 (by decide) ?_
    refine jj_iload (pc := 318) hX dX25_oneStep_318 rfl ?_
    refine jj_if_le (pc := 320) hX 331 dX25_oneStep_320 rfl (fun h320 => ?_) (fun h320 => ?_)
    · refine jj_aload_n (pc := 331) hX dX25_oneStep_331 rfl ?_
      refine jj_iload_n (pc := 332) hX dX25_oneStep_332 rfl ?_
      refine jj_iload_n (pc := 333) hX dX25_oneStep_333 rfl ?_
      refine jj_iload (pc := 334) hX dX25_oneStep_334 rfl ?_
      refine jj_lload (pc := 336) hX dX25_oneStep_336 rfl ?_
      refine jj_iload (pc := 338) hX dX25_oneStep_338 rfl ?_
      refine jj_lload (pc := 340) hX dX25_oneStep_340 rfl ?_
      rw [e10, e9]
      unfold m_s3
      rw [if_pos h320]
      refine jj_callV (pc := 342) hX (hD h320) dX25_oneStep_342 (lw_V q1689 q1691 qs36 q78 q1692) rfl ⟨by decide +kernel, by decide +kernel, by show _ = some (6 : Nat); decide +kernel⟩ ⟨Nat.le_of_ble_eq_true rfl, Nat.le_of_ble_eq_true rfl, Nat.le_of_ble_eq_true rfl, Nat.le_of_ble_eq_true rfl, Nat.le_of_ble_eq_true rfl⟩ (fun q => by cases q) rfl jc_25 rfl (jj_keq ?_) jj_kno
      exact jj_vret (pc := 345) hX dX25_oneStep_345 hr ⟨Nat.le_refl _, Nat.le_refl _⟩ (⟨rfl, rfl, rfl, rfl, rfl⟩)
    · refine jj_aload_n (pc := 323) hX dX25_oneStep_323 rfl ?_
      refine jj_iload_n (pc := 324) hX dX25_oneStep_324 rfl ?_
      refine jj_iload (pc := 325) hX dX25_oneStep_325 rfl ?_
      rw [e10, e9]
      unfold m_s3
      rw [if_neg h320]
      refine jj_callV (pc := 327) hX (w_fails X.1 (m_s2 t 0 σ) t _ ht) dX25_oneStep_327 (lw_V q1677 q1679 qs34 q78 q1680) rfl ⟨by decide +kernel, by decide +kernel, by show _ = some (2 : Nat); decide +kernel⟩ ⟨Nat.le_of_ble_eq_true rfl, Nat.le_of_ble_eq_true rfl, Nat.le_of_ble_eq_true rfl, Nat.le_of_ble_eq_true rfl, Nat.le_of_ble_eq_true rfl⟩ (fun q => by cases q) rfl jc_25 rfl (jj_keq ?_) jj_kno
      exact jj_vret (pc := 330) hX dX25_oneStep_330 hr ⟨Nat.le_refl _, Nat.le_refl _⟩ (⟨rfl, rfl, rfl, rfl, rfl⟩)
  · refine jj_aload_n (pc := 108) hX dX25_oneStep_108 rfl ?_
    refine jj_iload_n (pc := 109) hX dX25_oneStep_109 rfl ?_
    refine jj_bipush (pc := 110) hX (v := 8) dX25_oneStep_110 (by decide) ?_
    have e10 : (m_s5 t j a σ) = m_fails t 8 σ := by unfold m_s5; rw [htk]; exact if_neg h105
    rw [e10]
    refine jj_callV (pc := 112) hX (w_fails X.1 σ t _ ht) dX25_oneStep_112 (lw_V q1677 q1679 qs34 q78 q1680) rfl ⟨by decide +kernel, by decide +kernel, by show _ = some (2 : Nat); decide +kernel⟩ ⟨Nat.le_of_ble_eq_true rfl, Nat.le_of_ble_eq_true rfl, Nat.le_of_ble_eq_true rfl, Nat.le_of_ble_eq_true rfl, Nat.le_of_ble_eq_true rfl⟩ (fun q => by cases q) rfl jc_25 rfl (jj_keq ?_) jj_kno
    exact jj_vret (pc := 115) hX dX25_oneStep_115 hr ⟨Nat.le_refl _, Nat.le_refl _⟩ (⟨rfl, rfl, rfl, rfl, rfl⟩)

theorem w_os_g1 {X : jj_X} (hX : jj_ok X cX25_oneStep "BranchCellsModel" 15 5 141 0 0) (hr : jj_Ret X none) (σ : jm) (t : Nat) (a : Int32) (ht : t < 85) (hp : jb (σ.1 32 t) 12) (j : Nat) (hj : j ≤ 21) (htk : m_tk j = 1) (n15 : ¬ nI j = 15) (n16 : ¬ nI j = 16) (n17 : ¬ nI j = 17) (n20 : ¬ nI j = 20) (n18 : ¬ nI j = 18) (e9 : m_s4 t j a σ = if σ.1 31 (12 * t + nv (σ.1 32 t) - 1) = 0 then (m_s3 t j a 1 (σ.2 30 (12 * t + nv (σ.1 32 t) - 1)) 0 0 σ) else (m_fails t 2 (m_s2 t 1 σ))) (hD : 1 ≤ nv (σ.1 32 t) → σ.1 31 (12 * t + nv (σ.1 32 t) - 1) = 0 → m_fault t j a (σ.2 30 (12 * t + nv (σ.1 32 t) - 1)) 0 (m_s2 t 1 σ) ≤ 0 → jm_M X.1 yX25_does cX25_does 10 none 4 112 [jI (nI t), jI (nI j), jI a, jL (σ.2 30 (12 * t + nv (σ.1 32 t) - 1)), jI 0, jL 0] (m_s2 t 1 σ) (m_does t j a (σ.2 30 (12 * t + nv (σ.1 32 t) - 1)) 0 0 (m_s2 t 1 σ)) none) : jj_J X (jj_End X (jj_eq none jm_T (m_s5 t j a σ).1 (m_s5 t j a σ).2 jm_R) jj_no 0 0) 0 0 91 [(0, jR (some 0)), (1, jI (nI t)), (3, jI (nI j)), (4, jI a)] [] jm_T σ.1 σ.2 jm_R := by
  have hp2 := hp.2
  refine jj_iload_n (pc := 91) hX dX25_oneStep_91 rfl ?_
  refine jj_callS (pc := 92) hX (w_taken X.1 j hj _ _ _ _) dX25_oneStep_92 (lw_S q1681 q1682 q78 q1683) ⟨by decide +kernel, by decide +kernel, by show _ = some (1 : Nat); decide +kernel⟩ ⟨Nat.le_of_ble_eq_true rfl, Nat.le_of_ble_eq_true rfl, Nat.le_of_ble_eq_true rfl, Nat.le_of_ble_eq_true rfl, Nat.le_of_ble_eq_true rfl⟩ (fun q => by cases q) rfl (jj_keq ?_) jj_kno
  refine jj_top 1 (by rw [htk]; rfl) ?_
  refine jj_istore (pc := 95) hX dX25_oneStep_95 (by decide) ?_
  refine jj_aload_n (pc := 97) hX dX25_oneStep_97 rfl ?_
  refine jj_getR (pc := 98) hX (x := some 32) fl_X25_93_25 dX25_oneStep_98 rfl rfl rfl ?_
  refine jj_iload_n (pc := 101) hX dX25_oneStep_101 rfl ?_
  refine jj_iald (pc := 102) hX t dX25_oneStep_102 rfl rfl rfl ⟨by omega, by omega⟩ ?_
  refine jj_iload (pc := 103) hX dX25_oneStep_103 rfl ?_
  refine jj_icmp_ge (pc := 105) hX 116 dX25_oneStep_105 rfl (fun h105 => ?_) (fun h105 => ?_)
  · have e10 : (m_s5 t j a σ) = m_s4 t j a σ := by unfold m_s5; rw [htk]; exact if_pos h105
    have h9 := jb_ge hp (c := 1) (m := 1) rfl (by decide) (by decide) h105
    refine jj_bipush (pc := 116) hX (v := 12) dX25_oneStep_116 (by decide) ?_
    refine jj_iload_n (pc := 118) hX dX25_oneStep_118 rfl ?_
    refine jj_imul (pc := 119) hX dX25_oneStep_119 ?_
    refine jj_aload_n (pc := 120) hX dX25_oneStep_120 rfl ?_
    refine jj_getR (pc := 121) hX (x := some 32) fl_X25_93_25 dX25_oneStep_121 rfl rfl rfl ?_
    refine jj_iload_n (pc := 124) hX dX25_oneStep_124 rfl ?_
    refine jj_iald (pc := 125) hX t dX25_oneStep_125 rfl rfl rfl ⟨by omega, by omega⟩ ?_
    refine jj_iadd (pc := 126) hX dX25_oneStep_126 ?_
    refine jj_iload (pc := 127) hX dX25_oneStep_127 rfl ?_
    refine jj_isub (pc := 129) hX dX25_oneStep_129 ?_
    refine jj_istore (pc := 130) hX dX25_oneStep_130 (by decide) ?_
    refine jj_iload (pc := 132) hX dX25_oneStep_132 rfl ?_
    refine jj_if_le (pc := 134) hX 147 dX25_oneStep_134 rfl (fun q => absurd q (by decide)) (fun _ => ?_)
    refine jj_aload_n (pc := 137) hX dX25_oneStep_137 rfl ?_
    refine jj_getR (pc := 138) hX (x := some 30) fl_X25_87_25 dX25_oneStep_138 rfl rfl rfl ?_
    refine jj_iload (pc := 141) hX dX25_oneStep_141 rfl ?_
    refine jj_lald (pc := 143) hX (((12 * t) + nv (σ.1 32 t)) - 1) dX25_oneStep_143 rfl rfl (ix_sub (ix_add (ix_mul rfl rfl) hp.1) rfl (by omega)) ⟨by omega, by omega⟩ ?_
    refine jj_goto (pc := 144) hX 148 dX25_oneStep_144 rfl ?_
    refine jj_lstore (pc := 148) hX dX25_oneStep_148 (by decide) ?_
    refine jj_iload (pc := 150) hX dX25_oneStep_150 rfl ?_
    refine jj_if_le (pc := 152) hX 169 dX25_oneStep_152 rfl (fun q => absurd q (by decide)) (fun _ => ?_)
    refine jj_aload_n (pc := 155) hX dX25_oneStep_155 rfl ?_
    refine jj_getR (pc := 156) hX (x := some 31) fl_X25_90_25 dX25_oneStep_156 rfl rfl rfl ?_
    refine jj_iload (pc := 159) hX dX25_oneStep_159 rfl ?_
    refine jj_zald (pc := 161) hX (((12 * t) + nv (σ.1 32 t)) - 1) dX25_oneStep_161 rfl rfl (ix_sub (ix_add (ix_mul rfl rfl) hp.1) rfl (by omega)) ⟨by omega, by omega⟩ ?_
    refine jj_if_eq (pc := 162) hX 169 dX25_oneStep_162 rfl (fun h162 => ?_) (fun h162 => ?_)
    · refine jj_iconst (pc := 169) hX (v := 0) dX25_oneStep_169 (by decide) ?_
      refine jj_istore (pc := 170) hX dX25_oneStep_170 (by decide) ?_
      refine jj_iload (pc := 172) hX dX25_oneStep_172 rfl ?_
      refine jj_iconst (pc := 174) hX (v := 1) dX25_oneStep_174 (by decide) ?_
      refine jj_icmp_le (pc := 175) hX 190 dX25_oneStep_175 rfl (fun _ => ?_) (fun q => absurd (by decide) q)
      refine jj_lconst (pc := 190) hX (v := 0) dX25_oneStep_190 (by decide) ?_
      refine jj_lstore (pc := 191) hX dX25_oneStep_191 (by decide) ?_
      refine jj_iload (pc := 193) hX dX25_oneStep_193 rfl ?_
      refine jj_iconst (pc := 195) hX (v := 1) dX25_oneStep_195 (by decide) ?_
      refine jj_icmp_le (pc := 196) hX 215 dX25_oneStep_196 rfl (fun _ => ?_) (fun q => absurd (by decide) q)
      refine jj_iconst (pc := 215) hX (v := 0) dX25_oneStep_215 (by decide) ?_
      refine jj_istore (pc := 216) hX dX25_oneStep_216 (by decide) ?_
      refine jj_aload_n (pc := 218) hX dX25_oneStep_218 rfl ?_
      refine jj_getR (pc := 219) hX (x := some 32) fl_X25_93_25 dX25_oneStep_219 rfl rfl rfl ?_
      refine jj_iload_n (pc := 222) hX dX25_oneStep_222 rfl ?_
      refine jj_dup2 (pc := 223) hX dX25_oneStep_223 rfl rfl ?_
      refine jj_iald (pc := 224) hX t dX25_oneStep_224 rfl rfl rfl ⟨by omega, by omega⟩ ?_
      refine jj_iload (pc := 225) hX dX25_oneStep_225 rfl ?_
      refine jj_isub (pc := 227) hX dX25_oneStep_227 ?_
      refine jj_iast (pc := 228) hX t dX25_oneStep_228 rfl rfl ⟨by omega, by omega⟩ ?_
      refine jj_mem (m_s2 t 1 σ) rfl rfl ?_
      refine jj_iload_n (pc := 229) hX dX25_oneStep_229 rfl ?_
      refine jj_bipush (pc := 230) hX (v := 15) dX25_oneStep_230 (by decide) ?_
      refine jj_icmp_eq (pc := 232) hX 253 dX25_oneStep_232 rfl (fun q => absurd q n15) (fun _ => ?_)
      refine jj_iload_n (pc := 235) hX dX25_oneStep_235 rfl ?_
      refine jj_bipush (pc := 236) hX (v := 16) dX25_oneStep_236 (by decide) ?_
      refine jj_icmp_eq (pc := 238) hX 253 dX25_oneStep_238 rfl (fun q => absurd q n16) (fun _ => ?_)
      refine jj_iload_n (pc := 241) hX dX25_oneStep_241 rfl ?_
      refine jj_bipush (pc := 242) hX (v := 17) dX25_oneStep_242 (by decide) ?_
      refine jj_icmp_eq (pc := 244) hX 253 dX25_oneStep_244 rfl (fun q => absurd q n17) (fun _ => ?_)
      refine jj_iload_n (pc := 247) hX dX25_oneStep_247 rfl ?_
      refine jj_bipush (pc := 248) hX (v := 20) dX25_oneStep_248 (by decide) ?_
      refine jj_icmp_ne (pc := 250) hX 257 dX25_oneStep_250 rfl (fun _ => ?_) (fun q => absurd q n20)
      refine jj_iconst (pc := 257) hX (v := 0) dX25_oneStep_257 (by decide) ?_
      refine jj_istore (pc := 258) hX dX25_oneStep_258 (by decide) ?_
      refine jj_iload (pc := 260) hX dX25_oneStep_260 rfl ?_
      refine jj_iconst (pc := 262) hX (v := 1) dX25_oneStep_262 (by decide) ?_
      refine jj_icmp_le (pc := 263) hX 271 dX25_oneStep_263 rfl (fun _ => ?_) (fun q => absurd (by decide) q)
      refine jj_iload (pc := 271) hX dX25_oneStep_271 rfl ?_
      refine jj_if_le (pc := 273) hX 304 dX25_oneStep_273 rfl (fun q => absurd q (by decide)) (fun _ => ?_)
      refine jj_iload (pc := 276) hX dX25_oneStep_276 rfl ?_
      refine jj_if_ne (pc := 278) hX 304 dX25_oneStep_278 rfl (fun q => absurd (by decide) q) (fun _ => ?_)
      refine jj_iload (pc := 281) hX dX25_oneStep_281 rfl ?_
      refine jj_iload_n (pc := 283) hX dX25_oneStep_283 rfl ?_
      refine jj_bipush (pc := 284) hX (v := 18) dX25_oneStep_284 (by decide) ?_
      refine jj_icmp_ne (pc := 286) hX 293 dX25_oneStep_286 rfl (fun _ => ?_) (fun q => absurd q n18)
      refine jj_iconst (pc := 293) hX (v := 0) dX25_oneStep_293 (by decide) ?_
      refine jj_icmp_eq (pc := 294) hX 304 dX25_oneStep_294 rfl (fun _ => ?_) (fun q => absurd (by decide) q)
      refine jj_aload_n (pc := 304) hX dX25_oneStep_304 rfl ?_
      refine jj_iload_n (pc := 305) hX dX25_oneStep_305 rfl ?_
      refine jj_iload_n (pc := 306) hX dX25_oneStep_306 rfl ?_
      refine jj_iload (pc := 307) hX dX25_oneStep_307 rfl ?_
      refine jj_lload (pc := 309) hX dX25_oneStep_309 rfl ?_
      refine jj_lload (pc := 311) hX dX25_oneStep_311 rfl ?_
      refine jj_callV (pc := 313) hX (w_faultOf X.1 (m_s2 t 1 σ) t j _ _ _ ht hj) dX25_oneStep_313 (lw_V q1684 q1686 qs35 q78 q1687) rfl ⟨by decide +kernel, by decide +kernel, by show _ = some (5 : Nat); decide +kernel⟩ ⟨Nat.le_of_ble_eq_true rfl, Nat.le_of_ble_eq_true rfl, Nat.le_of_ble_eq_true rfl, Nat.le_of_ble_eq_true rfl, Nat.le_of_ble_eq_true rfl⟩ (fun q => by cases q) rfl jc_25 rfl (jj_keq ?_) jj_kno
      refine jj_istore (pc := 316) hX dX25_oneStep_316 (by decide) ?_
      refine jj_iload (pc := 318) hX dX25_oneStep_318 rfl ?_
      refine jj_if_le (pc := 320) hX 331 dX25_oneStep_320 rfl (fun h320 => ?_) (fun h320 => ?_)
      · refine jj_aload_n (pc := 331) hX dX25_oneStep_331 rfl ?_
        refine jj_iload_n (pc := 332) hX dX25_oneStep_332 rfl ?_
        refine jj_iload_n (pc := 333) hX dX25_oneStep_333 rfl ?_
        refine jj_iload (pc := 334) hX dX25_oneStep_334 rfl ?_
        refine jj_lload (pc := 336) hX dX25_oneStep_336 rfl ?_
        refine jj_iload (pc := 338) hX dX25_oneStep_338 rfl ?_
        refine jj_lload (pc := 340) hX dX25_oneStep_340 rfl ?_
        rw [e10, e9, if_pos h162]
        unfold m_s3
        rw [if_pos h320]
        refine jj_callV (pc := 342) hX (hD h9 h162 h320) dX25_oneStep_342 (lw_V q1689 q1691 qs36 q78 q1692) rfl ⟨by decide +kernel, by decide +kernel, by show _ = some (6 : Nat); decide +kernel⟩ ⟨Nat.le_of_ble_eq_true rfl, Nat.le_of_ble_eq_true rfl, Nat.le_of_ble_eq_true rfl, Nat.le_of_ble_eq_true rfl, Nat.le_of_ble_eq_true rfl⟩ (fun q => by cases q) rfl jc_25 rfl (jj_keq ?_) jj_kno
        exact jj_vret (pc := 345) hX dX25_oneStep_345 hr ⟨Nat.le_refl _, Nat.le_refl _⟩ (⟨rfl, rfl, rfl, rfl, rfl⟩)
      · refine jj_aload_n (pc := 323) hX dX25_oneStep_323 rfl ?_
        refine jj_iload_n (pc := 324) hX dX25_oneStep_324 rfl ?_
        refine jj_iload (pc := 325) hX dX25_oneStep_325 rfl ?_
        rw [e10, e9, if_pos h162]
        unfold m_s3
        rw [if_neg h320]
        refine jj_callV (pc := 327) hX (w_fails X.1 (m_s2 t 1 σ) t _ ht) dX25_oneStep_327 (lw_V q1677 q1679 qs34 q78 q1680) rfl ⟨by decide +kernel, by decide +kernel, by show _ = some (2 : Nat); decide +kernel⟩ ⟨Nat.le_of_ble_eq_true rfl, Nat.le_of_ble_eq_true rfl, Nat.le_of_ble_eq_true rfl, Nat.le_of_ble_eq_true rfl, Nat.le_of_ble_eq_true rfl⟩ (fun q => by cases q) rfl jc_25 rfl (jj_keq ?_) jj_kno
        exact jj_vret (pc := 330) hX dX25_oneStep_330 hr ⟨Nat.le_refl _, Nat.le_refl _⟩ (⟨rfl, rfl, rfl, rfl, rfl⟩)
    · refine jj_iconst (pc := 165) hX (v := 1) dX25_oneStep_165 (by decide) ?_
      refine jj_goto (pc := 166) hX 170 dX25_oneStep_166 rfl ?_
      refine jj_istore (pc := 170) hX dX25_oneStep_170 (by decide) ?_
      refine jj_iload (pc := 172) hX dX25_oneStep_172 rfl ?_
      refine jj_iconst (pc := 174) hX (v := 1) dX25_oneStep_174 (by decide) ?_
      refine jj_icmp_le (pc := 175) hX 190 dX25_oneStep_175 rfl (fun _ => ?_) (fun q => absurd (by decide) q)
      refine jj_lconst (pc := 190) hX (v := 0) dX25_oneStep_190 (by decide) ?_
      refine jj_lstore (pc := 191) hX dX25_oneStep_191 (by decide) ?_
      refine jj_iload (pc := 193) hX dX25_oneStep_193 rfl ?_
      refine jj_iconst (pc := 195) hX (v := 1) dX25_oneStep_195 (by decide) ?_
      refine jj_icmp_le (pc := 196) hX 215 dX25_oneStep_196 rfl (fun _ => ?_) (fun q => absurd (by decide) q)
      refine jj_iconst (pc := 215) hX (v := 0) dX25_oneStep_215 (by decide) ?_
      refine jj_istore (pc := 216) hX dX25_oneStep_216 (by decide) ?_
      refine jj_aload_n (pc := 218) hX dX25_oneStep_218 rfl ?_
      refine jj_getR (pc := 219) hX (x := some 32) fl_X25_93_25 dX25_oneStep_219 rfl rfl rfl ?_
      refine jj_iload_n (pc := 222) hX dX25_oneStep_222 rfl ?_
      refine jj_dup2 (pc := 223) hX dX25_oneStep_223 rfl rfl ?_
      refine jj_iald (pc := 224) hX t dX25_oneStep_224 rfl rfl rfl ⟨by omega, by omega⟩ ?_
      refine jj_iload (pc := 225) hX dX25_oneStep_225 rfl ?_
      refine jj_isub (pc := 227) hX dX25_oneStep_227 ?_
      refine jj_iast (pc := 228) hX t dX25_oneStep_228 rfl rfl ⟨by omega, by omega⟩ ?_
      refine jj_mem (m_s2 t 1 σ) rfl rfl ?_
      refine jj_iload_n (pc := 229) hX dX25_oneStep_229 rfl ?_
      refine jj_bipush (pc := 230) hX (v := 15) dX25_oneStep_230 (by decide) ?_
      refine jj_icmp_eq (pc := 232) hX 253 dX25_oneStep_232 rfl (fun q => absurd q n15) (fun _ => ?_)
      refine jj_iload_n (pc := 235) hX dX25_oneStep_235 rfl ?_
      refine jj_bipush (pc := 236) hX (v := 16) dX25_oneStep_236 (by decide) ?_
      refine jj_icmp_eq (pc := 238) hX 253 dX25_oneStep_238 rfl (fun q => absurd q n16) (fun _ => ?_)
      refine jj_iload_n (pc := 241) hX dX25_oneStep_241 rfl ?_
      refine jj_bipush (pc := 242) hX (v := 17) dX25_oneStep_242 (by decide) ?_
      refine jj_icmp_eq (pc := 244) hX 253 dX25_oneStep_244 rfl (fun q => absurd q n17) (fun _ => ?_)
      refine jj_iload_n (pc := 247) hX dX25_oneStep_247 rfl ?_
      refine jj_bipush (pc := 248) hX (v := 20) dX25_oneStep_248 (by decide) ?_
      refine jj_icmp_ne (pc := 250) hX 257 dX25_oneStep_250 rfl (fun _ => ?_) (fun q => absurd q n20)
      refine jj_iconst (pc := 257) hX (v := 0) dX25_oneStep_257 (by decide) ?_
      refine jj_istore (pc := 258) hX dX25_oneStep_258 (by decide) ?_
      refine jj_iload (pc := 260) hX dX25_oneStep_260 rfl ?_
      refine jj_iconst (pc := 262) hX (v := 1) dX25_oneStep_262 (by decide) ?_
      refine jj_icmp_le (pc := 263) hX 271 dX25_oneStep_263 rfl (fun _ => ?_) (fun q => absurd (by decide) q)
      refine jj_iload (pc := 271) hX dX25_oneStep_271 rfl ?_
      refine jj_if_le (pc := 273) hX 304 dX25_oneStep_273 rfl (fun q => absurd q (by decide)) (fun _ => ?_)
      refine jj_iload (pc := 276) hX dX25_oneStep_276 rfl ?_
      refine jj_if_ne (pc := 278) hX 304 dX25_oneStep_278 rfl (fun q => absurd (by decide) q) (fun _ => ?_)
      refine jj_iload (pc := 281) hX dX25_oneStep_281 rfl ?_
      refine jj_iload_n (pc := 283) hX dX25_oneStep_283 rfl ?_
      refine jj_bipush (pc := 284) hX (v := 18) dX25_oneStep_284 (by decide) ?_
      refine jj_icmp_ne (pc := 286) hX 293 dX25_oneStep_286 rfl (fun _ => ?_) (fun q => absurd q n18)
      refine jj_iconst (pc := 293) hX (v := 0) dX25_oneStep_293 (by decide) ?_
      refine jj_icmp_eq (pc := 294) hX 304 dX25_oneStep_294 rfl (fun q => absurd q (by decide)) (fun _ => ?_)
      refine jj_aload_n (pc := 297) hX dX25_oneStep_297 rfl ?_
      refine jj_iload_n (pc := 298) hX dX25_oneStep_298 rfl ?_
      refine jj_iconst (pc := 299) hX (v := 2) dX25_oneStep_299 (by decide) ?_
      rw [e10, e9, if_neg h162]
      refine jj_callV (pc := 300) hX (w_fails X.1 (m_s2 t 1 σ) t _ ht) dX25_oneStep_300 (lw_V q1677 q1679 qs34 q78 q1680) rfl ⟨by decide +kernel, by decide +kernel, by show _ = some (2 : Nat); decide +kernel⟩ ⟨Nat.le_of_ble_eq_true rfl, Nat.le_of_ble_eq_true rfl, Nat.le_of_ble_eq_true rfl, Nat.le_of_ble_eq_true rfl, Nat.le_of_ble_eq_true rfl⟩ (fun q => by cases q) rfl jc_25 rfl (jj_keq ?_) jj_kno
      exact jj_vret (pc := 303) hX dX25_oneStep_303 hr ⟨Nat.le_refl _, Nat.le_refl _⟩ (⟨rfl, rfl, rfl, rfl, rfl⟩)
  · refine jj_aload_n (pc := 108) hX dX25_oneStep_108 rfl ?_
    refine jj_iload_n (pc := 109) hX dX25_oneStep_109 rfl ?_
    refine jj_bipush (pc := 110) hX (v := 8) dX25_oneStep_110 (by decide) ?_
    have e10 : (m_s5 t j a σ) = m_fails t 8 σ := by unfold m_s5; rw [htk]; exact if_neg h105
    rw [e10]
    refine jj_callV (pc := 112) hX (w_fails X.1 σ t _ ht) dX25_oneStep_112 (lw_V q1677 q1679 qs34 q78 q1680) rfl ⟨by decide +kernel, by decide +kernel, by show _ = some (2 : Nat); decide +kernel⟩ ⟨Nat.le_of_ble_eq_true rfl, Nat.le_of_ble_eq_true rfl, Nat.le_of_ble_eq_true rfl, Nat.le_of_ble_eq_true rfl, Nat.le_of_ble_eq_true rfl⟩ (fun q => by cases q) rfl jc_25 rfl (jj_keq ?_) jj_kno
    exact jj_vret (pc := 115) hX dX25_oneStep_115 hr ⟨Nat.le_refl _, Nat.le_refl _⟩ (⟨rfl, rfl, rfl, rfl, rfl⟩)

theorem w_os_g2 {X : jj_X} (hX : jj_ok X cX25_oneStep "BranchCellsModel" 15 5 141 0 0) (hr : jj_Ret X none) (σ : jm) (t : Nat) (a : Int32) (ht : t < 85) (hp : jb (σ.1 32 t) 12) (j : Nat) (hj : j ≤ 21) (htk : m_tk j = 2) (n15 : ¬ nI j = 15) (n16 : ¬ nI j = 16) (n17 : ¬ nI j = 17) (n20 : ¬ nI j = 20) (n18 : ¬ nI j = 18) (e9 : m_s4 t j a σ = if σ.1 31 (12 * t + nv (σ.1 32 t) - 2) = 0 then (if σ.1 31 ((12 * t + nv (σ.1 32 t) - 2) + 1) = 0 then (m_s3 t j a 2 (σ.2 30 (12 * t + nv (σ.1 32 t) - 2)) 0 (σ.2 30 ((12 * t + nv (σ.1 32 t) - 2) + 1)) σ) else (m_fails t 2 (m_s2 t 2 σ))) else (m_fails t 2 (m_s2 t 2 σ))) (hD : 2 ≤ nv (σ.1 32 t) → σ.1 31 (12 * t + nv (σ.1 32 t) - 2) = 0 → σ.1 31 ((12 * t + nv (σ.1 32 t) - 2) + 1) = 0 → m_fault t j a (σ.2 30 (12 * t + nv (σ.1 32 t) - 2)) (σ.2 30 ((12 * t + nv (σ.1 32 t) - 2) + 1)) (m_s2 t 2 σ) ≤ 0 → jm_M X.1 yX25_does cX25_does 10 none 4 112 [jI (nI t), jI (nI j), jI a, jL (σ.2 30 (12 * t + nv (σ.1 32 t) - 2)), jI 0, jL (σ.2 30 ((12 * t + nv (σ.1 32 t) - 2) + 1))] (m_s2 t 2 σ) (m_does t j a (σ.2 30 (12 * t + nv (σ.1 32 t) - 2)) 0 (σ.2 30 ((12 * t + nv (σ.1 32 t) - 2) + 1)) (m_s2 t 2 σ)) none) : jj_J X (jj_End X (jj_eq none jm_T (m_s5 t j a σ).1 (m_s5 t j a σ).2 jm_R) jj_no 0 0) 0 0 91 [(0, jR (some 0)), (1, jI (nI t)), (3, jI (nI j)), (4, jI a)] [] jm_T σ.1 σ.2 jm_R := by
  have hp2 := hp.2
  refine jj_iload_n (pc := 91) hX dX25_oneStep_91 rfl ?_
  refine jj_callS (pc := 92) hX (w_taken X.1 j hj _ _ _ _) dX25_oneStep_92 (lw_S q1681 q1682 q78 q1683) ⟨by decide +kernel, by decide +kernel, by show _ = some (1 : Nat); decide +kernel⟩ ⟨Nat.le_of_ble_eq_true rfl, Nat.le_of_ble_eq_true rfl, Nat.le_of_ble_eq_true rfl, Nat.le_of_ble_eq_true rfl, Nat.le_of_ble_eq_true rfl⟩ (fun q => by cases q) rfl (jj_keq ?_) jj_kno
  refine jj_top 2 (by rw [htk]; rfl) ?_
  refine jj_istore (pc := 95) hX dX25_oneStep_95 (by decide) ?_
  refine jj_aload_n (pc := 97) hX dX25_oneStep_97 rfl ?_
  refine jj_getR (pc := 98) hX (x := some 32) fl_X25_93_25 dX25_oneStep_98 rfl rfl rfl ?_
  refine jj_iload_n (pc := 101) hX dX25_oneStep_101 rfl ?_
  refine jj_iald (pc := 102) hX t dX25_oneStep_102 rfl rfl rfl ⟨by omega, by omega⟩ ?_
  refine jj_iload (pc := 103) hX dX25_oneStep_103 rfl ?_
  refine jj_icmp_ge (pc := 105) hX 116 dX25_oneStep_105 rfl (fun h105 => ?_) (fun h105 => ?_)
  · have e10 : (m_s5 t j a σ) = m_s4 t j a σ := by unfold m_s5; rw [htk]; exact if_pos h105
    have h9 := jb_ge hp (c := 2) (m := 2) rfl (by decide) (by decide) h105
    refine jj_bipush (pc := 116) hX (v := 12) dX25_oneStep_116 (by decide) ?_
    refine jj_iload_n (pc := 118) hX dX25_oneStep_118 rfl ?_
    refine jj_imul (pc := 119) hX dX25_oneStep_119 ?_
    refine jj_aload_n (pc := 120) hX dX25_oneStep_120 rfl ?_
    refine jj_getR (pc := 121) hX (x := some 32) fl_X25_93_25 dX25_oneStep_121 rfl rfl rfl ?_
    refine jj_iload_n (pc := 124) hX dX25_oneStep_124 rfl ?_
    refine jj_iald (pc := 125) hX t dX25_oneStep_125 rfl rfl rfl ⟨by omega, by omega⟩ ?_
    refine jj_iadd (pc := 126) hX dX25_oneStep_126 ?_
    refine jj_iload (pc := 127) hX dX25_oneStep_127 rfl ?_
    refine jj_isub (pc := 129) hX dX25_oneStep_129 ?_
    refine jj_istore (pc := 130) hX dX25_oneStep_130 (by decide) ?_
    refine jj_iload (pc := 132) hX dX25_oneStep_132 rfl ?_
    refine jj_if_le (pc := 134) hX 147 dX25_oneStep_134 rfl (fun q => absurd q (by decide)) (fun _ => ?_)
    refine jj_aload_n (pc := 137) hX dX25_oneStep_137 rfl ?_
    refine jj_getR (pc := 138) hX (x := some 30) fl_X25_87_25 dX25_oneStep_138 rfl rfl rfl ?_
    refine jj_iload (pc := 141) hX dX25_oneStep_141 rfl ?_
    refine jj_lald (pc := 143) hX (((12 * t) + nv (σ.1 32 t)) - 2) dX25_oneStep_143 rfl rfl (ix_sub (ix_add (ix_mul rfl rfl) hp.1) rfl (by omega)) ⟨by omega, by omega⟩ ?_
    refine jj_goto (pc := 144) hX 148 dX25_oneStep_144 rfl ?_
    refine jj_lstore (pc := 148) hX dX25_oneStep_148 (by decide) ?_
    refine jj_iload (pc := 150) hX dX25_oneStep_150 rfl ?_
    refine jj_if_le (pc := 152) hX 169 dX25_oneStep_152 rfl (fun q => absurd q (by decide)) (fun _ => ?_)
    refine jj_aload_n (pc := 155) hX dX25_oneStep_155 rfl ?_
    refine jj_getR (pc := 156) hX (x := some 31) fl_X25_90_25 dX25_oneStep_156 rfl rfl rfl ?_
    refine jj_iload (pc := 159) hX dX25_oneStep_159 rfl ?_
    refine jj_zald (pc := 161) hX (((12 * t) + nv (σ.1 32 t)) - 2) dX25_oneStep_161 rfl rfl (ix_sub (ix_add (ix_mul rfl rfl) hp.1) rfl (by omega)) ⟨by omega, by omega⟩ ?_
    refine jj_if_eq (pc := 162) hX 169 dX25_oneStep_162 rfl (fun h162 => ?_) (fun h162 => ?_)
    · refine jj_iconst (pc := 169) hX (v := 0) dX25_oneStep_169 (by decide) ?_
      refine jj_istore (pc := 170) hX dX25_oneStep_170 (by decide) ?_
      refine jj_iload (pc := 172) hX dX25_oneStep_172 rfl ?_
      refine jj_iconst (pc := 174) hX (v := 1) dX25_oneStep_174 (by decide) ?_
      refine jj_icmp_le (pc := 175) hX 190 dX25_oneStep_175 rfl (fun q => absurd q (by decide)) (fun _ => ?_)
      refine jj_aload_n (pc := 178) hX dX25_oneStep_178 rfl ?_
      refine jj_getR (pc := 179) hX (x := some 30) fl_X25_87_25 dX25_oneStep_179 rfl rfl rfl ?_
      refine jj_iload (pc := 182) hX dX25_oneStep_182 rfl ?_
      refine jj_iconst (pc := 184) hX (v := 1) dX25_oneStep_184 (by decide) ?_
      refine jj_iadd (pc := 185) hX dX25_oneStep_185 ?_
      refine jj_lald (pc := 186) hX ((((12 * t) + nv (σ.1 32 t)) - 2) + 1) dX25_oneStep_186 rfl rfl (ix_add (ix_sub (ix_add (ix_mul rfl rfl) hp.1) rfl (by omega)) rfl) ⟨by omega, by omega⟩ ?_
      refine jj_goto (pc := 187) hX 191 dX25_oneStep_187 rfl ?_
      refine jj_lstore (pc := 191) hX dX25_oneStep_191 (by decide) ?_
      refine jj_iload (pc := 193) hX dX25_oneStep_193 rfl ?_
      refine jj_iconst (pc := 195) hX (v := 1) dX25_oneStep_195 (by decide) ?_
      refine jj_icmp_le (pc := 196) hX 215 dX25_oneStep_196 rfl (fun q => absurd q (by decide)) (fun _ => ?_)
      refine jj_aload_n (pc := 199) hX dX25_oneStep_199 rfl ?_
      refine jj_getR (pc := 200) hX (x := some 31) fl_X25_90_25 dX25_oneStep_200 rfl rfl rfl ?_
      refine jj_iload (pc := 203) hX dX25_oneStep_203 rfl ?_
      refine jj_iconst (pc := 205) hX (v := 1) dX25_oneStep_205 (by decide) ?_
      refine jj_iadd (pc := 206) hX dX25_oneStep_206 ?_
      refine jj_zald (pc := 207) hX ((((12 * t) + nv (σ.1 32 t)) - 2) + 1) dX25_oneStep_207 rfl rfl (ix_add (ix_sub (ix_add (ix_mul rfl rfl) hp.1) rfl (by omega)) rfl) ⟨by omega, by omega⟩ ?_
      refine jj_if_eq (pc := 208) hX 215 dX25_oneStep_208 rfl (fun h208 => ?_) (fun h208 => ?_)
      · refine jj_iconst (pc := 215) hX (v := 0) dX25_oneStep_215 (by decide) ?_
        refine jj_istore (pc := 216) hX dX25_oneStep_216 (by decide) ?_
        refine jj_aload_n (pc := 218) hX dX25_oneStep_218 rfl ?_
        refine jj_getR (pc := 219) hX (x := some 32) fl_X25_93_25 dX25_oneStep_219 rfl rfl rfl ?_
        refine jj_iload_n (pc := 222) hX dX25_oneStep_222 rfl ?_
        refine jj_dup2 (pc := 223) hX dX25_oneStep_223 rfl rfl ?_
        refine jj_iald (pc := 224) hX t dX25_oneStep_224 rfl rfl rfl ⟨by omega, by omega⟩ ?_
        refine jj_iload (pc := 225) hX dX25_oneStep_225 rfl ?_
        refine jj_isub (pc := 227) hX dX25_oneStep_227 ?_
        refine jj_iast (pc := 228) hX t dX25_oneStep_228 rfl rfl ⟨by omega, by omega⟩ ?_
        refine jj_mem (m_s2 t 2 σ) rfl rfl ?_
        refine jj_iload_n (pc := 229) hX dX25_oneStep_229 rfl ?_
        refine jj_bipush (pc := 230) hX (v := 15) dX25_oneStep_230 (by decide) ?_
        refine jj_icmp_eq (pc := 232) hX 253 dX25_oneStep_232 rfl (fun q => absurd q n15) (fun _ => ?_)
        refine jj_iload_n (pc := 235) hX dX25_oneStep_235 rfl ?_
        refine jj_bipush (pc := 236) hX (v := 16) dX25_oneStep_236 (by decide) ?_
        refine jj_icmp_eq (pc := 238) hX 253 dX25_oneStep_238 rfl (fun q => absurd q n16) (fun _ => ?_)
        refine jj_iload_n (pc := 241) hX dX25_oneStep_241 rfl ?_
        refine jj_bipush (pc := 242) hX (v := 17) dX25_oneStep_242 (by decide) ?_
        refine jj_icmp_eq (pc := 244) hX 253 dX25_oneStep_244 rfl (fun q => absurd q n17) (fun _ => ?_)
        refine jj_iload_n (pc := 247) hX dX25_oneStep_247 rfl ?_
        refine jj_bipush (pc := 248) hX (v := 20) dX25_oneStep_248 (by decide) ?_
        refine jj_icmp_ne (pc := 250) hX 257 dX25_oneStep_250 rfl (fun _ => ?_) (fun q => absurd q n20)
        refine jj_iconst (pc := 257) hX (v := 0) dX25_oneStep_257 (by decide) ?_
        refine jj_istore (pc := 258) hX dX25_oneStep_258 (by decide) ?_
        refine jj_iload (pc := 260) hX dX25_oneStep_260 rfl ?_
        refine jj_iconst (pc := 262) hX (v := 1) dX25_oneStep_262 (by decide) ?_
        refine jj_icmp_le (pc := 263) hX 271 dX25_oneStep_263 rfl (fun q => absurd q (by decide)) (fun _ => ?_)
        refine jj_iload (pc := 266) hX dX25_oneStep_266 rfl ?_
        refine jj_if_ne (pc := 268) hX 297 dX25_oneStep_268 rfl (fun q => absurd (by decide) q) (fun _ => ?_)
        refine jj_iload (pc := 271) hX dX25_oneStep_271 rfl ?_
        refine jj_if_le (pc := 273) hX 304 dX25_oneStep_273 rfl (fun q => absurd q (by decide)) (fun _ => ?_)
        refine jj_iload (pc := 276) hX dX25_oneStep_276 rfl ?_
        refine jj_if_ne (pc := 278) hX 304 dX25_oneStep_278 rfl (fun q => absurd (by decide) q) (fun _ => ?_)
        refine jj_iload (pc := 281) hX dX25_oneStep_281 rfl ?_
        refine jj_iload_n (pc := 283) hX dX25_oneStep_283 rfl ?_
        refine jj_bipush (pc := 284) hX (v := 18) dX25_oneStep_284 (by decide) ?_
        refine jj_icmp_ne (pc := 286) hX 293 dX25_oneStep_286 rfl (fun _ => ?_) (fun q => absurd q n18)
        refine jj_iconst (pc := 293) hX (v := 0) dX25_oneStep_293 (by decide) ?_
        refine jj_icmp_eq (pc := 294) hX 304 dX25_oneStep_294 rfl (fun _ => ?_) (fun q => absurd (by decide) q)
        refine jj_aload_n (pc := 304) hX dX25_oneStep_304 rfl ?_
        refine jj_iload_n (pc := 305) hX dX25_oneStep_305 rfl ?_
        refine jj_iload_n (pc := 306) hX dX25_oneStep_306 rfl ?_
        refine jj_iload (pc := 307) hX dX25_oneStep_307 rfl ?_
        refine jj_lload (pc := 309) hX dX25_oneStep_309 rfl ?_
        refine jj_lload (pc := 311) hX dX25_oneStep_311 rfl ?_
        refine jj_callV (pc := 313) hX (w_faultOf X.1 (m_s2 t 2 σ) t j _ _ _ ht hj) dX25_oneStep_313 (lw_V q1684 q1686 qs35 q78 q1687) rfl ⟨by decide +kernel, by decide +kernel, by show _ = some (5 : Nat); decide +kernel⟩ ⟨Nat.le_of_ble_eq_true rfl, Nat.le_of_ble_eq_true rfl, Nat.le_of_ble_eq_true rfl, Nat.le_of_ble_eq_true rfl, Nat.le_of_ble_eq_true rfl⟩ (fun q => by cases q) rfl jc_25 rfl (jj_keq ?_) jj_kno
        refine jj_istore (pc := 316) hX dX25_oneStep_316 (by decide) ?_
        refine jj_iload (pc := 318) hX dX25_oneStep_318 rfl ?_
        refine jj_if_le (pc := 320) hX 331 dX25_oneStep_320 rfl (fun h320 => ?_) (fun h320 => ?_)
        · refine jj_aload_n (pc := 331) hX dX25_oneStep_331 rfl ?_
          refine jj_iload_n (pc := 332) hX dX25_oneStep_332 rfl ?_
          refine jj_iload_n (pc := 333) hX dX25_oneStep_333 rfl ?_
          refine jj_iload (pc := 334) hX dX25_oneStep_334 rfl ?_
          refine jj_lload (pc := 336) hX dX25_oneStep_336 rfl ?_
          refine jj_iload (pc := 338) hX dX25_oneStep_338 rfl ?_
          refine jj_lload (pc := 340) hX dX25_oneStep_340 rfl ?_
          rw [e10, e9, if_pos h162, if_pos h208]
          unfold m_s3
          rw [if_pos h320]
          refine jj_callV (pc := 342) hX (hD h9 h162 h208 h320) dX25_oneStep_342 (lw_V q1689 q1691 qs36 q78 q1692) rfl ⟨by decide +kernel, by decide +kernel, by show _ = some (6 : Nat); decide +kernel⟩ ⟨Nat.le_of_ble_eq_true rfl, Nat.le_of_ble_eq_true rfl, Nat.le_of_ble_eq_true rfl, Nat.le_of_ble_eq_true rfl, Nat.le_of_ble_eq_true rfl⟩ (fun q => by cases q) rfl jc_25 rfl (jj_keq ?_) jj_kno
          exact jj_vret (pc := 345) hX dX25_oneStep_345 hr ⟨Nat.le_refl _, Nat.le_refl _⟩ (⟨rfl, rfl, rfl, rfl, rfl⟩)
        · refine jj_aload_n (pc := 323) hX dX25_oneStep_323 rfl ?_
          refine jj_iload_n (pc := 324) hX dX25_oneStep_324 rfl ?_
          refine jj_iload (pc := 325) hX dX25_oneStep_325 rfl ?_
          rw [e10, e9, if_pos h162, if_pos h208]
          unfold m_s3
          rw [if_neg h320]
          refine jj_callV (pc := 327) hX (w_fails X.1 (m_s2 t 2 σ) t _ ht) dX25_oneStep_327 (lw_V q1677 q1679 qs34 q78 q1680) rfl ⟨by decide +kernel, by decide +kernel, by show _ = some (2 : Nat); decide +kernel⟩ ⟨Nat.le_of_ble_eq_true rfl, Nat.le_of_ble_eq_true rfl, Nat.le_of_ble_eq_true rfl, Nat.le_of_ble_eq_true rfl, Nat.le_of_ble_eq_true rfl⟩ (fun q => by cases q) rfl jc_25 rfl (jj_keq ?_) jj_kno
          exact jj_vret (pc := 330) hX dX25_oneStep_330 hr ⟨Nat.le_refl _, Nat.le_refl _⟩ (⟨rfl, rfl, rfl, rfl, rfl⟩)
      · refine jj_iconst (pc := 211) hX (v := 1) dX25_oneStep_211 (by decide) ?_
        refine jj_goto (pc := 212) hX 216 dX25_oneStep_212 rfl ?_
        refine jj_istore (pc := 216) hX dX25_oneStep_216 (by decide) ?_
        refine jj_aload_n (pc := 218) hX dX25_oneStep_218 rfl ?_
        refine jj_getR (pc := 219) hX (x := some 32) fl_X25_93_25 dX25_oneStep_219 rfl rfl rfl ?_
        refine jj_iload_n (pc := 222) hX dX25_oneStep_222 rfl ?_
        refine jj_dup2 (pc := 223) hX dX25_oneStep_223 rfl rfl ?_
        refine jj_iald (pc := 224) hX t dX25_oneStep_224 rfl rfl rfl ⟨by omega, by omega⟩ ?_
        refine jj_iload (pc := 225) hX dX25_oneStep_225 rfl ?_
        refine jj_isub (pc := 227) hX dX25_oneStep_227 ?_
        refine jj_iast (pc := 228) hX t dX25_oneStep_228 rfl rfl ⟨by omega, by omega⟩ ?_
        refine jj_mem (m_s2 t 2 σ) rfl rfl ?_
        refine jj_iload_n (pc := 229) hX dX25_oneStep_229 rfl ?_
        refine jj_bipush (pc := 230) hX (v := 15) dX25_oneStep_230 (by decide) ?_
        refine jj_icmp_eq (pc := 232) hX 253 dX25_oneStep_232 rfl (fun q => absurd q n15) (fun _ => ?_)
        refine jj_iload_n (pc := 235) hX dX25_oneStep_235 rfl ?_
        refine jj_bipush (pc := 236) hX (v := 16) dX25_oneStep_236 (by decide) ?_
        refine jj_icmp_eq (pc := 238) hX 253 dX25_oneStep_238 rfl (fun q => absurd q n16) (fun _ => ?_)
        refine jj_iload_n (pc := 241) hX dX25_oneStep_241 rfl ?_
        refine jj_bipush (pc := 242) hX (v := 17) dX25_oneStep_242 (by decide) ?_
        refine jj_icmp_eq (pc := 244) hX 253 dX25_oneStep_244 rfl (fun q => absurd q n17) (fun _ => ?_)
        refine jj_iload_n (pc := 247) hX dX25_oneStep_247 rfl ?_
        refine jj_bipush (pc := 248) hX (v := 20) dX25_oneStep_248 (by decide) ?_
        refine jj_icmp_ne (pc := 250) hX 257 dX25_oneStep_250 rfl (fun _ => ?_) (fun q => absurd q n20)
        refine jj_iconst (pc := 257) hX (v := 0) dX25_oneStep_257 (by decide) ?_
        refine jj_istore (pc := 258) hX dX25_oneStep_258 (by decide) ?_
        refine jj_iload (pc := 260) hX dX25_oneStep_260 rfl ?_
        refine jj_iconst (pc := 262) hX (v := 1) dX25_oneStep_262 (by decide) ?_
        refine jj_icmp_le (pc := 263) hX 271 dX25_oneStep_263 rfl (fun q => absurd q (by decide)) (fun _ => ?_)
        refine jj_iload (pc := 266) hX dX25_oneStep_266 rfl ?_
        refine jj_if_ne (pc := 268) hX 297 dX25_oneStep_268 rfl (fun _ => ?_) (fun q => absurd q (by decide))
        refine jj_aload_n (pc := 297) hX dX25_oneStep_297 rfl ?_
        refine jj_iload_n (pc := 298) hX dX25_oneStep_298 rfl ?_
        refine jj_iconst (pc := 299) hX (v := 2) dX25_oneStep_299 (by decide) ?_
        rw [e10, e9, if_pos h162, if_neg h208]
        refine jj_callV (pc := 300) hX (w_fails X.1 (m_s2 t 2 σ) t _ ht) dX25_oneStep_300 (lw_V q1677 q1679 qs34 q78 q1680) rfl ⟨by decide +kernel, by decide +kernel, by show _ = some (2 : Nat); decide +kernel⟩ ⟨Nat.le_of_ble_eq_true rfl, Nat.le_of_ble_eq_true rfl, Nat.le_of_ble_eq_true rfl, Nat.le_of_ble_eq_true rfl, Nat.le_of_ble_eq_true rfl⟩ (fun q => by cases q) rfl jc_25 rfl (jj_keq ?_) jj_kno
        exact jj_vret (pc := 303) hX dX25_oneStep_303 hr ⟨Nat.le_refl _, Nat.le_refl _⟩ (⟨rfl, rfl, rfl, rfl, rfl⟩)
    · refine jj_iconst (pc := 165) hX (v := 1) dX25_oneStep_165 (by decide) ?_
      refine jj_goto (pc := 166) hX 170 dX25_oneStep_166 rfl ?_
      refine jj_istore (pc := 170) hX dX25_oneStep_170 (by decide) ?_
      refine jj_iload (pc := 172) hX dX25_oneStep_172 rfl ?_
      refine jj_iconst (pc := 174) hX (v := 1) dX25_oneStep_174 (by decide) ?_
      refine jj_icmp_le (pc := 175) hX 190 dX25_oneStep_175 rfl (fun q => absurd q (by decide)) (fun _ => ?_)
      refine jj_aload_n (pc := 178) hX dX25_oneStep_178 rfl ?_
      refine jj_getR (pc := 179) hX (x := some 30) fl_X25_87_25 dX25_oneStep_179 rfl rfl rfl ?_
      refine jj_iload (pc := 182) hX dX25_oneStep_182 rfl ?_
      refine jj_iconst (pc := 184) hX (v := 1) dX25_oneStep_184 (by decide) ?_
      refine jj_iadd (pc := 185) hX dX25_oneStep_185 ?_
      refine jj_lald (pc := 186) hX ((((12 * t) + nv (σ.1 32 t)) - 2) + 1) dX25_oneStep_186 rfl rfl (ix_add (ix_sub (ix_add (ix_mul rfl rfl) hp.1) rfl (by omega)) rfl) ⟨by omega, by omega⟩ ?_
      refine jj_goto (pc := 187) hX 191 dX25_oneStep_187 rfl ?_
      refine jj_lstore (pc := 191) hX dX25_oneStep_191 (by decide) ?_
      refine jj_iload (pc := 193) hX dX25_oneStep_193 rfl ?_
      refine jj_iconst (pc := 195) hX (v := 1) dX25_oneStep_195 (by decide) ?_
      refine jj_icmp_le (pc := 196) hX 215 dX25_oneStep_196 rfl (fun q => absurd q (by decide)) (fun _ => ?_)
      refine jj_aload_n (pc := 199) hX dX25_oneStep_199 rfl ?_
      refine jj_getR (pc := 200) hX (x := some 31) fl_X25_90_25 dX25_oneStep_200 rfl rfl rfl ?_
      refine jj_iload (pc := 203) hX dX25_oneStep_203 rfl ?_
      refine jj_iconst (pc := 205) hX (v := 1) dX25_oneStep_205 (by decide) ?_
      refine jj_iadd (pc := 206) hX dX25_oneStep_206 ?_
      refine jj_zald (pc := 207) hX ((((12 * t) + nv (σ.1 32 t)) - 2) + 1) dX25_oneStep_207 rfl rfl (ix_add (ix_sub (ix_add (ix_mul rfl rfl) hp.1) rfl (by omega)) rfl) ⟨by omega, by omega⟩ ?_
      refine jj_if_eq (pc := 208) hX 215 dX25_oneStep_208 rfl (fun h208 => ?_) (fun h208 => ?_)
      · refine jj_iconst (pc := 215) hX (v := 0) dX25_oneStep_215 (by decide) ?_
        refine jj_istore (pc := 216) hX dX25_oneStep_216 (by decide) ?_
        refine jj_aload_n (pc := 218) hX dX25_oneStep_218 rfl ?_
        refine jj_getR (pc := 219) hX (x := some 32) fl_X25_93_25 dX25_oneStep_219 rfl rfl rfl ?_
        refine jj_iload_n (pc := 222) hX dX25_oneStep_222 rfl ?_
        refine jj_dup2 (pc := 223) hX dX25_oneStep_223 rfl rfl ?_
        refine jj_iald (pc := 224) hX t dX25_oneStep_224 rfl rfl rfl ⟨by omega, by omega⟩ ?_
        refine jj_iload (pc := 225) hX dX25_oneStep_225 rfl ?_
        refine jj_isub (pc := 227) hX dX25_oneStep_227 ?_
        refine jj_iast (pc := 228) hX t dX25_oneStep_228 rfl rfl ⟨by omega, by omega⟩ ?_
        refine jj_mem (m_s2 t 2 σ) rfl rfl ?_
        refine jj_iload_n (pc := 229) hX dX25_oneStep_229 rfl ?_
        refine jj_bipush (pc := 230) hX (v := 15) dX25_oneStep_230 (by decide) ?_
        refine jj_icmp_eq (pc := 232) hX 253 dX25_oneStep_232 rfl (fun q => absurd q n15) (fun _ => ?_)
        refine jj_iload_n (pc := 235) hX dX25_oneStep_235 rfl ?_
        refine jj_bipush (pc := 236) hX (v := 16) dX25_oneStep_236 (by decide) ?_
        refine jj_icmp_eq (pc := 238) hX 253 dX25_oneStep_238 rfl (fun q => absurd q n16) (fun _ => ?_)
        refine jj_iload_n (pc := 241) hX dX25_oneStep_241 rfl ?_
        refine jj_bipush (pc := 242) hX (v := 17) dX25_oneStep_242 (by decide) ?_
        refine jj_icmp_eq (pc := 244) hX 253 dX25_oneStep_244 rfl (fun q => absurd q n17) (fun _ => ?_)
        refine jj_iload_n (pc := 247) hX dX25_oneStep_247 rfl ?_
        refine jj_bipush (pc := 248) hX (v := 20) dX25_oneStep_248 (by decide) ?_
        refine jj_icmp_ne (pc := 250) hX 257 dX25_oneStep_250 rfl (fun _ => ?_) (fun q => absurd q n20)
        refine jj_iconst (pc := 257) hX (v := 0) dX25_oneStep_257 (by decide) ?_
        refine jj_istore (pc := 258) hX dX25_oneStep_258 (by decide) ?_
        refine jj_iload (pc := 260) hX dX25_oneStep_260 rfl ?_
        refine jj_iconst (pc := 262) hX (v := 1) dX25_oneStep_262 (by decide) ?_
        refine jj_icmp_le (pc := 263) hX 271 dX25_oneStep_263 rfl (fun q => absurd q (by decide)) (fun _ => ?_)
        refine jj_iload (pc := 266) hX dX25_oneStep_266 rfl ?_
        refine jj_if_ne (pc := 268) hX 297 dX25_oneStep_268 rfl (fun q => absurd (by decide) q) (fun _ => ?_)
        refine jj_iload (pc := 271) hX dX25_oneStep_271 rfl ?_
        refine jj_if_le (pc := 273) hX 304 dX25_oneStep_273 rfl (fun q => absurd q (by decide)) (fun _ => ?_)
        refine jj_iload (pc := 276) hX dX25_oneStep_276 rfl ?_
        refine jj_if_ne (pc := 278) hX 304 dX25_oneStep_278 rfl (fun q => absurd (by decide) q) (fun _ => ?_)
        refine jj_iload (pc := 281) hX dX25_oneStep_281 rfl ?_
        refine jj_iload_n (pc := 283) hX dX25_oneStep_283 rfl ?_
        refine jj_bipush (pc := 284) hX (v := 18) dX25_oneStep_284 (by decide) ?_
        refine jj_icmp_ne (pc := 286) hX 293 dX25_oneStep_286 rfl (fun _ => ?_) (fun q => absurd q n18)
        refine jj_iconst (pc := 293) hX (v := 0) dX25_oneStep_293 (by decide) ?_
        refine jj_icmp_eq (pc := 294) hX 304 dX25_oneStep_294 rfl (fun q => absurd q (by decide)) (fun _ => ?_)
        refine jj_aload_n (pc := 297) hX dX25_oneStep_297 rfl ?_
        refine jj_iload_n (pc := 298) hX dX25_oneStep_298 rfl ?_
        refine jj_iconst (pc := 299) hX (v := 2) dX25_oneStep_299 (by decide) ?_
        rw [e10, e9, if_neg h162]
        refine jj_callV (pc := 300) hX (w_fails X.1 (m_s2 t 2 σ) t _ ht) dX25_oneStep_300 (lw_V q1677 q1679 qs34 q78 q1680) rfl ⟨by decide +kernel, by decide +kernel, by show _ = some (2 : Nat); decide +kernel⟩ ⟨Nat.le_of_ble_eq_true rfl, Nat.le_of_ble_eq_true rfl, Nat.le_of_ble_eq_true rfl, Nat.le_of_ble_eq_true rfl, Nat.le_of_ble_eq_true rfl⟩ (fun q => by cases q) rfl jc_25 rfl (jj_keq ?_) jj_kno
        exact jj_vret (pc := 303) hX dX25_oneStep_303 hr ⟨Nat.le_refl _, Nat.le_refl _⟩ (⟨rfl, rfl, rfl, rfl, rfl⟩)
      · refine jj_iconst (pc := 211) hX (v := 1) dX25_oneStep_211 (by decide) ?_
        refine jj_goto (pc := 212) hX 216 dX25_oneStep_212 rfl ?_
        refine jj_istore (pc := 216) hX dX25_oneStep_216 (by decide) ?_
        refine jj_aload_n (pc := 218) hX dX25_oneStep_218 rfl ?_
        refine jj_getR (pc := 219) hX (x := some 32) fl_X25_93_25 dX25_oneStep_219 rfl rfl rfl ?_
        refine jj_iload_n (pc := 222) hX dX25_oneStep_222 rfl ?_
        refine jj_dup2 (pc := 223) hX dX25_oneStep_223 rfl rfl ?_
        refine jj_iald (pc := 224) hX t dX25_oneStep_224 rfl rfl rfl ⟨by omega, by omega⟩ ?_
        refine jj_iload (pc := 225) hX dX25_oneStep_225 rfl ?_
        refine jj_isub (pc := 227) hX dX25_oneStep_227 ?_
        refine jj_iast (pc := 228) hX t dX25_oneStep_228 rfl rfl ⟨by omega, by omega⟩ ?_
        refine jj_mem (m_s2 t 2 σ) rfl rfl ?_
        refine jj_iload_n (pc := 229) hX dX25_oneStep_229 rfl ?_
        refine jj_bipush (pc := 230) hX (v := 15) dX25_oneStep_230 (by decide) ?_
        refine jj_icmp_eq (pc := 232) hX 253 dX25_oneStep_232 rfl (fun q => absurd q n15) (fun _ => ?_)
        refine jj_iload_n (pc := 235) hX dX25_oneStep_235 rfl ?_
        refine jj_bipush (pc := 236) hX (v := 16) dX25_oneStep_236 (by decide) ?_
        refine jj_icmp_eq (pc := 238) hX 253 dX25_oneStep_238 rfl (fun q => absurd q n16) (fun _ => ?_)
        refine jj_iload_n (pc := 241) hX dX25_oneStep_241 rfl ?_
        refine jj_bipush (pc := 242) hX (v := 17) dX25_oneStep_242 (by decide) ?_
        refine jj_icmp_eq (pc := 244) hX 253 dX25_oneStep_244 rfl (fun q => absurd q n17) (fun _ => ?_)
        refine jj_iload_n (pc := 247) hX dX25_oneStep_247 rfl ?_
        refine jj_bipush (pc := 248) hX (v := 20) dX25_oneStep_248 (by decide) ?_
        refine jj_icmp_ne (pc := 250) hX 257 dX25_oneStep_250 rfl (fun _ => ?_) (fun q => absurd q n20)
        refine jj_iconst (pc := 257) hX (v := 0) dX25_oneStep_257 (by decide) ?_
        refine jj_istore (pc := 258) hX dX25_oneStep_258 (by decide) ?_
        refine jj_iload (pc := 260) hX dX25_oneStep_260 rfl ?_
        refine jj_iconst (pc := 262) hX (v := 1) dX25_oneStep_262 (by decide) ?_
        refine jj_icmp_le (pc := 263) hX 271 dX25_oneStep_263 rfl (fun q => absurd q (by decide)) (fun _ => ?_)
        refine jj_iload (pc := 266) hX dX25_oneStep_266 rfl ?_
        refine jj_if_ne (pc := 268) hX 297 dX25_oneStep_268 rfl (fun _ => ?_) (fun q => absurd q (by decide))
        refine jj_aload_n (pc := 297) hX dX25_oneStep_297 rfl ?_
        refine jj_iload_n (pc := 298) hX dX25_oneStep_298 rfl ?_
        refine jj_iconst (pc := 299) hX (v := 2) dX25_oneStep_299 (by decide) ?_
        rw [e10, e9, if_neg h162]
        refine jj_callV (pc := 300) hX (w_fails X.1 (m_s2 t 2 σ) t _ ht) dX25_oneStep_300 (lw_V q1677 q1679 qs34 q78 q1680) rfl ⟨by decide +kernel, by decide +kernel, by show _ = some (2 : Nat); decide +kernel⟩ ⟨Nat.le_of_ble_eq_true rfl, Nat.le_of_ble_eq_true rfl, Nat.le_of_ble_eq_true rfl, Nat.le_of_ble_eq_true rfl, Nat.le_of_ble_eq_true rfl⟩ (fun q => by cases q) rfl jc_25 rfl (jj_keq ?_) jj_kno
        exact jj_vret (pc := 303) hX dX25_oneStep_303 hr ⟨Nat.le_refl _, Nat.le_refl _⟩ (⟨rfl, rfl, rfl, rfl, rfl⟩)
  · refine jj_aload_n (pc := 108) hX dX25_oneStep_108 rfl ?_
    refine jj_iload_n (pc := 109) hX dX25_oneStep_109 rfl ?_
    refine jj_bipush (pc := 110) hX (v := 8) dX25_oneStep_110 (by decide) ?_
    have e10 : (m_s5 t j a σ) = m_fails t 8 σ := by unfold m_s5; rw [htk]; exact if_neg h105
    rw [e10]
    refine jj_callV (pc := 112) hX (w_fails X.1 σ t _ ht) dX25_oneStep_112 (lw_V q1677 q1679 qs34 q78 q1680) rfl ⟨by decide +kernel, by decide +kernel, by show _ = some (2 : Nat); decide +kernel⟩ ⟨Nat.le_of_ble_eq_true rfl, Nat.le_of_ble_eq_true rfl, Nat.le_of_ble_eq_true rfl, Nat.le_of_ble_eq_true rfl, Nat.le_of_ble_eq_true rfl⟩ (fun q => by cases q) rfl jc_25 rfl (jj_keq ?_) jj_kno
    exact jj_vret (pc := 115) hX dX25_oneStep_115 hr ⟨Nat.le_refl _, Nat.le_refl _⟩ (⟨rfl, rfl, rfl, rfl, rfl⟩)

theorem w_os_15 {X : jj_X} (hX : jj_ok X cX25_oneStep "BranchCellsModel" 15 5 141 0 0) (hr : jj_Ret X none) (σ : jm) (t : Nat) (a : Int32) (ht : t < 85) (hp : jb (σ.1 32 t) 12) (hD : ∀ x xh y, m_ok1 t 15 x xh y σ → m_fault t 15 a x y (m_s2 t 1 σ) ≤ 0 → jm_M X.1 yX25_does cX25_does 10 none 4 112 [jI (nI t), jI 15, jI a, jL x, jI xh, jL y] (m_s2 t 1 σ) (m_does t 15 a x xh y (m_s2 t 1 σ)) none) : jj_J X (jj_End X (jj_eq none jm_T (m_s5 t 15 a σ).1 (m_s5 t 15 a σ).2 jm_R) jj_no 0 0) 0 0 91 [(0, jR (some 0)), (1, jI (nI t)), (3, jI 15), (4, jI a)] [] jm_T σ.1 σ.2 jm_R := by
  have e9 : m_s4 t 15 a σ = if σ.1 31 (12 * t + nv (σ.1 32 t) - 1) = 0 then (m_s3 t 15 a 1 (σ.2 30 (12 * t + nv (σ.1 32 t) - 1)) 0 0 σ) else (m_s3 t 15 a 1 (σ.2 30 (12 * t + nv (σ.1 32 t) - 1)) 1 0 σ) := rfl
  have htk : m_tk 15 = 1 := rfl
  have hp2 := hp.2
  refine jj_iload_n (pc := 91) hX dX25_oneStep_91 rfl ?_
  refine jj_callS (pc := 92) hX (w_taken X.1 15 (by decide) _ _ _ _) dX25_oneStep_92 (lw_S q1681 q1682 q78 q1683) ⟨by decide +kernel, by decide +kernel, by show _ = some (1 : Nat); decide +kernel⟩ ⟨Nat.le_of_ble_eq_true rfl, Nat.le_of_ble_eq_true rfl, Nat.le_of_ble_eq_true rfl, Nat.le_of_ble_eq_true rfl, Nat.le_of_ble_eq_true rfl⟩ (fun q => by cases q) rfl (jj_keq ?_) jj_kno
  refine jj_top 1 (by rw [htk]; rfl) ?_
  refine jj_istore (pc := 95) hX dX25_oneStep_95 (by decide) ?_
  refine jj_aload_n (pc := 97) hX dX25_oneStep_97 rfl ?_
  refine jj_getR (pc := 98) hX (x := some 32) fl_X25_93_25 dX25_oneStep_98 rfl rfl rfl ?_
  refine jj_iload_n (pc := 101) hX dX25_oneStep_101 rfl ?_
  refine jj_iald (pc := 102) hX t dX25_oneStep_102 rfl rfl rfl ⟨by omega, by omega⟩ ?_
  refine jj_iload (pc := 103) hX dX25_oneStep_103 rfl ?_
  refine jj_icmp_ge (pc := 105) hX 116 dX25_oneStep_105 rfl (fun h105 => ?_) (fun h105 => ?_)
  · have e10 : (m_s5 t 15 a σ) = m_s4 t 15 a σ := by unfold m_s5; rw [htk]; exact if_pos h105
    have h9 := jb_ge hp (c := 1) (m := 1) rfl (by decide) (by decide) h105
    refine jj_bipush (pc := 116) hX (v := 12) dX25_oneStep_116 (by decide) ?_
    refine jj_iload_n (pc := 118) hX dX25_oneStep_118 rfl ?_
    refine jj_imul (pc := 119) hX dX25_oneStep_119 ?_
    refine jj_aload_n (pc := 120) hX dX25_oneStep_120 rfl ?_
    refine jj_getR (pc := 121) hX (x := some 32) fl_X25_93_25 dX25_oneStep_121 rfl rfl rfl ?_
    refine jj_iload_n (pc := 124) hX dX25_oneStep_124 rfl ?_
    refine jj_iald (pc := 125) hX t dX25_oneStep_125 rfl rfl rfl ⟨by omega, by omega⟩ ?_
    refine jj_iadd (pc := 126) hX dX25_oneStep_126 ?_
    refine jj_iload (pc := 127) hX dX25_oneStep_127 rfl ?_
    refine jj_isub (pc := 129) hX dX25_oneStep_129 ?_
    refine jj_istore (pc := 130) hX dX25_oneStep_130 (by decide) ?_
    refine jj_iload (pc := 132) hX dX25_oneStep_132 rfl ?_
    refine jj_if_le (pc := 134) hX 147 dX25_oneStep_134 rfl (fun q => absurd q (by decide)) (fun _ => ?_)
    refine jj_aload_n (pc := 137) hX dX25_oneStep_137 rfl ?_
    refine jj_getR (pc := 138) hX (x := some 30) fl_X25_87_25 dX25_oneStep_138 rfl rfl rfl ?_
    refine jj_iload (pc := 141) hX dX25_oneStep_141 rfl ?_
    refine jj_lald (pc := 143) hX (((12 * t) + nv (σ.1 32 t)) - 1) dX25_oneStep_143 rfl rfl (ix_sub (ix_add (ix_mul rfl rfl) hp.1) rfl (by omega)) ⟨by omega, by omega⟩ ?_
    refine jj_goto (pc := 144) hX 148 dX25_oneStep_144 rfl ?_
    refine jj_lstore (pc := 148) hX dX25_oneStep_148 (by decide) ?_
    refine jj_iload (pc := 150) hX dX25_oneStep_150 rfl ?_
    refine jj_if_le (pc := 152) hX 169 dX25_oneStep_152 rfl (fun q => absurd q (by decide)) (fun _ => ?_)
    refine jj_aload_n (pc := 155) hX dX25_oneStep_155 rfl ?_
    refine jj_getR (pc := 156) hX (x := some 31) fl_X25_90_25 dX25_oneStep_156 rfl rfl rfl ?_
    refine jj_iload (pc := 159) hX dX25_oneStep_159 rfl ?_
    refine jj_zald (pc := 161) hX (((12 * t) + nv (σ.1 32 t)) - 1) dX25_oneStep_161 rfl rfl (ix_sub (ix_add (ix_mul rfl rfl) hp.1) rfl (by omega)) ⟨by omega, by omega⟩ ?_
    refine jj_if_eq (pc := 162) hX 169 dX25_oneStep_162 rfl (fun h162 => ?_) (fun h162 => ?_)
    · refine jj_iconst (pc := 169) hX (v := 0) dX25_oneStep_169 (by decide) ?_
      refine jj_istore (pc := 170) hX dX25_oneStep_170 (by decide) ?_
      refine jj_iload (pc := 172) hX dX25_oneStep_172 rfl ?_
      refine jj_iconst (pc := 174) hX (v := 1) dX25_oneStep_174 (by decide) ?_
      refine jj_icmp_le (pc := 175) hX 190 dX25_oneStep_175 rfl (fun _ => ?_) (fun q => absurd (by decide) q)
      refine jj_lconst (pc := 190) hX (v := 0) dX25_oneStep_190 (by decide) ?_
      refine jj_lstore (pc := 191) hX dX25_oneStep_191 (by decide) ?_
      refine jj_iload (pc := 193) hX dX25_oneStep_193 rfl ?_
      refine jj_iconst (pc := 195) hX (v := 1) dX25_oneStep_195 (by decide) ?_
      refine jj_icmp_le (pc := 196) hX 215 dX25_oneStep_196 rfl (fun _ => ?_) (fun q => absurd (by decide) q)
      refine jj_iconst (pc := 215) hX (v := 0) dX25_oneStep_215 (by decide) ?_
      refine jj_istore (pc := 216) hX dX25_oneStep_216 (by decide) ?_
      refine jj_aload_n (pc := 218) hX dX25_oneStep_218 rfl ?_
      refine jj_getR (pc := 219) hX (x := some 32) fl_X25_93_25 dX25_oneStep_219 rfl rfl rfl ?_
      refine jj_iload_n (pc := 222) hX dX25_oneStep_222 rfl ?_
      refine jj_dup2 (pc := 223) hX dX25_oneStep_223 rfl rfl ?_
      refine jj_iald (pc := 224) hX t dX25_oneStep_224 rfl rfl rfl ⟨by omega, by omega⟩ ?_
      refine jj_iload (pc := 225) hX dX25_oneStep_225 rfl ?_
      refine jj_isub (pc := 227) hX dX25_oneStep_227 ?_
      refine jj_iast (pc := 228) hX t dX25_oneStep_228 rfl rfl ⟨by omega, by omega⟩ ?_
      refine jj_mem (m_s2 t 1 σ) rfl rfl ?_
      refine jj_iload_n (pc := 229) hX dX25_oneStep_229 rfl ?_
      refine jj_bipush (pc := 230) hX (v := 15) dX25_oneStep_230 (by decide) ?_
      refine jj_icmp_eq (pc := 232) hX 253 dX25_oneStep_232 rfl (fun _ => ?_) (fun q => absurd (by decide) q)
      refine jj_iconst (pc := 253) hX (v := 1) dX25_oneStep_253 (by decide) ?_
      refine jj_goto (pc := 254) hX 258 dX25_oneStep_254 rfl ?_
      refine jj_istore (pc := 258) hX dX25_oneStep_258 (by decide) ?_
      refine jj_iload (pc := 260) hX dX25_oneStep_260 rfl ?_
      refine jj_iconst (pc := 262) hX (v := 1) dX25_oneStep_262 (by decide) ?_
      refine jj_icmp_le (pc := 263) hX 271 dX25_oneStep_263 rfl (fun _ => ?_) (fun q => absurd (by decide) q)
      refine jj_iload (pc := 271) hX dX25_oneStep_271 rfl ?_
      refine jj_if_le (pc := 273) hX 304 dX25_oneStep_273 rfl (fun q => absurd q (by decide)) (fun _ => ?_)
      refine jj_iload (pc := 276) hX dX25_oneStep_276 rfl ?_
      refine jj_if_ne (pc := 278) hX 304 dX25_oneStep_278 rfl (fun _ => ?_) (fun q => absurd q (by decide))
      refine jj_aload_n (pc := 304) hX dX25_oneStep_304 rfl ?_
      refine jj_iload_n (pc := 305) hX dX25_oneStep_305 rfl ?_
      refine jj_iload_n (pc := 306) hX dX25_oneStep_306 rfl ?_
      refine jj_iload (pc := 307) hX dX25_oneStep_307 rfl ?_
      refine jj_lload (pc := 309) hX dX25_oneStep_309 rfl ?_
      refine jj_lload (pc := 311) hX dX25_oneStep_311 rfl ?_
      refine jj_callV (pc := 313) hX (w_faultOf X.1 (m_s2 t 1 σ) t 15 _ _ _ ht (by decide)) dX25_oneStep_313 (lw_V q1684 q1686 qs35 q78 q1687) rfl ⟨by decide +kernel, by decide +kernel, by show _ = some (5 : Nat); decide +kernel⟩ ⟨Nat.le_of_ble_eq_true rfl, Nat.le_of_ble_eq_true rfl, Nat.le_of_ble_eq_true rfl, Nat.le_of_ble_eq_true rfl, Nat.le_of_ble_eq_true rfl⟩ (fun q => by cases q) rfl jc_25 rfl (jj_keq ?_) jj_kno
      refine jj_istore (pc := 316) hX dX25_oneStep_316 (by decide) ?_
      refine jj_iload (pc := 318) hX dX25_oneStep_318 rfl ?_
      refine jj_if_le (pc := 320) hX 331 dX25_oneStep_320 rfl (fun h320 => ?_) (fun h320 => ?_)
      · refine jj_aload_n (pc := 331) hX dX25_oneStep_331 rfl ?_
        refine jj_iload_n (pc := 332) hX dX25_oneStep_332 rfl ?_
        refine jj_iload_n (pc := 333) hX dX25_oneStep_333 rfl ?_
        refine jj_iload (pc := 334) hX dX25_oneStep_334 rfl ?_
        refine jj_lload (pc := 336) hX dX25_oneStep_336 rfl ?_
        refine jj_iload (pc := 338) hX dX25_oneStep_338 rfl ?_
        refine jj_lload (pc := 340) hX dX25_oneStep_340 rfl ?_
        rw [e10, e9, if_pos h162]
        unfold m_s3
        rw [if_pos h320]
        refine jj_callV (pc := 342) hX (hD _ _ _ ⟨rfl, rfl, h9, Or.inl ⟨rfl, h162, by decide⟩⟩ h320) dX25_oneStep_342 (lw_V q1689 q1691 qs36 q78 q1692) rfl ⟨by decide +kernel, by decide +kernel, by show _ = some (6 : Nat); decide +kernel⟩ ⟨Nat.le_of_ble_eq_true rfl, Nat.le_of_ble_eq_true rfl, Nat.le_of_ble_eq_true rfl, Nat.le_of_ble_eq_true rfl, Nat.le_of_ble_eq_true rfl⟩ (fun q => by cases q) rfl jc_25 rfl (jj_keq ?_) jj_kno
        exact jj_vret (pc := 345) hX dX25_oneStep_345 hr ⟨Nat.le_refl _, Nat.le_refl _⟩ (⟨rfl, rfl, rfl, rfl, rfl⟩)
      · refine jj_aload_n (pc := 323) hX dX25_oneStep_323 rfl ?_
        refine jj_iload_n (pc := 324) hX dX25_oneStep_324 rfl ?_
        refine jj_iload (pc := 325) hX dX25_oneStep_325 rfl ?_
        rw [e10, e9, if_pos h162]
        unfold m_s3
        rw [if_neg h320]
        refine jj_callV (pc := 327) hX (w_fails X.1 (m_s2 t 1 σ) t _ ht) dX25_oneStep_327 (lw_V q1677 q1679 qs34 q78 q1680) rfl ⟨by decide +kernel, by decide +kernel, by show _ = some (2 : Nat); decide +kernel⟩ ⟨Nat.le_of_ble_eq_true rfl, Nat.le_of_ble_eq_true rfl, Nat.le_of_ble_eq_true rfl, Nat.le_of_ble_eq_true rfl, Nat.le_of_ble_eq_true rfl⟩ (fun q => by cases q) rfl jc_25 rfl (jj_keq ?_) jj_kno
        exact jj_vret (pc := 330) hX dX25_oneStep_330 hr ⟨Nat.le_refl _, Nat.le_refl _⟩ (⟨rfl, rfl, rfl, rfl, rfl⟩)
    · refine jj_iconst (pc := 165) hX (v := 1) dX25_oneStep_165 (by decide) ?_
      refine jj_goto (pc := 166) hX 170 dX25_oneStep_166 rfl ?_
      refine jj_istore (pc := 170) hX dX25_oneStep_170 (by decide) ?_
      refine jj_iload (pc := 172) hX dX25_oneStep_172 rfl ?_
      refine jj_iconst (pc := 174) hX (v := 1) dX25_oneStep_174 (by decide) ?_
      refine jj_icmp_le (pc := 175) hX 190 dX25_oneStep_175 rfl (fun _ => ?_) (fun q => absurd (by decide) q)
      refine jj_lconst (pc := 190) hX (v := 0) dX25_oneStep_190 (by decide) ?_
      refine jj_lstore (pc := 191) hX dX25_oneStep_191 (by decide) ?_
      refine jj_iload (pc := 193) hX dX25_oneStep_193 rfl ?_
      refine jj_iconst (pc := 195) hX (v := 1) dX25_oneStep_195 (by decide) ?_
      refine jj_icmp_le (pc := 196) hX 215 dX25_oneStep_196 rfl (fun _ => ?_) (fun q => absurd (by decide) q)
      refine jj_iconst (pc := 215) hX (v := 0) dX25_oneStep_215 (by decide) ?_
      refine jj_istore (pc := 216) hX dX25_oneStep_216 (by decide) ?_
      refine jj_aload_n (pc := 218) hX dX25_oneStep_218 rfl ?_
      refine jj_getR (pc := 219) hX (x := some 32) fl_X25_93_25 dX25_oneStep_219 rfl rfl rfl ?_
      refine jj_iload_n (pc := 222) hX dX25_oneStep_222 rfl ?_
      refine jj_dup2 (pc := 223) hX dX25_oneStep_223 rfl rfl ?_
      refine jj_iald (pc := 224) hX t dX25_oneStep_224 rfl rfl rfl ⟨by omega, by omega⟩ ?_
      refine jj_iload (pc := 225) hX dX25_oneStep_225 rfl ?_
      refine jj_isub (pc := 227) hX dX25_oneStep_227 ?_
      refine jj_iast (pc := 228) hX t dX25_oneStep_228 rfl rfl ⟨by omega, by omega⟩ ?_
      refine jj_mem (m_s2 t 1 σ) rfl rfl ?_
      refine jj_iload_n (pc := 229) hX dX25_oneStep_229 rfl ?_
      refine jj_bipush (pc := 230) hX (v := 15) dX25_oneStep_230 (by decide) ?_
      refine jj_icmp_eq (pc := 232) hX 253 dX25_oneStep_232 rfl (fun _ => ?_) (fun q => absurd (by decide) q)
      refine jj_iconst (pc := 253) hX (v := 1) dX25_oneStep_253 (by decide) ?_
      refine jj_goto (pc := 254) hX 258 dX25_oneStep_254 rfl ?_
      refine jj_istore (pc := 258) hX dX25_oneStep_258 (by decide) ?_
      refine jj_iload (pc := 260) hX dX25_oneStep_260 rfl ?_
      refine jj_iconst (pc := 262) hX (v := 1) dX25_oneStep_262 (by decide) ?_
      refine jj_icmp_le (pc := 263) hX 271 dX25_oneStep_263 rfl (fun _ => ?_) (fun q => absurd (by decide) q)
      refine jj_iload (pc := 271) hX dX25_oneStep_271 rfl ?_
      refine jj_if_le (pc := 273) hX 304 dX25_oneStep_273 rfl (fun q => absurd q (by decide)) (fun _ => ?_)
      refine jj_iload (pc := 276) hX dX25_oneStep_276 rfl ?_
      refine jj_if_ne (pc := 278) hX 304 dX25_oneStep_278 rfl (fun _ => ?_) (fun q => absurd q (by decide))
      refine jj_aload_n (pc := 304) hX dX25_oneStep_304 rfl ?_
      refine jj_iload_n (pc := 305) hX dX25_oneStep_305 rfl ?_
      refine jj_iload_n (pc := 306) hX dX25_oneStep_306 rfl ?_
      refine jj_iload (pc := 307) hX dX25_oneStep_307 rfl ?_
      refine jj_lload (pc := 309) hX dX25_oneStep_309 rfl ?_
      refine jj_lload (pc := 311) hX dX25_oneStep_311 rfl ?_
      refine jj_callV (pc := 313) hX (w_faultOf X.1 (m_s2 t 1 σ) t 15 _ _ _ ht (by decide)) dX25_oneStep_313 (lw_V q1684 q1686 qs35 q78 q1687) rfl ⟨by decide +kernel, by decide +kernel, by show _ = some (5 : Nat); decide +kernel⟩ ⟨Nat.le_of_ble_eq_true rfl, Nat.le_of_ble_eq_true rfl, Nat.le_of_ble_eq_true rfl, Nat.le_of_ble_eq_true rfl, Nat.le_of_ble_eq_true rfl⟩ (fun q => by cases q) rfl jc_25 rfl (jj_keq ?_) jj_kno
      refine jj_istore (pc := 316) hX dX25_oneStep_316 (by decide) ?_
      refine jj_iload (pc := 318) hX dX25_oneStep_318 rfl ?_
      refine jj_if_le (pc := 320) hX 331 dX25_oneStep_320 rfl (fun h320 => ?_) (fun h320 => ?_)
      · refine jj_aload_n (pc := 331) hX dX25_oneStep_331 rfl ?_
        refine jj_iload_n (pc := 332) hX dX25_oneStep_332 rfl ?_
        refine jj_iload_n (pc := 333) hX dX25_oneStep_333 rfl ?_
        refine jj_iload (pc := 334) hX dX25_oneStep_334 rfl ?_
        refine jj_lload (pc := 336) hX dX25_oneStep_336 rfl ?_
        refine jj_iload (pc := 338) hX dX25_oneStep_338 rfl ?_
        refine jj_lload (pc := 340) hX dX25_oneStep_340 rfl ?_
        rw [e10, e9, if_neg h162]
        unfold m_s3
        rw [if_pos h320]
        refine jj_callV (pc := 342) hX (hD _ _ _ ⟨rfl, rfl, h9, Or.inr ⟨rfl, h162, by decide⟩⟩ h320) dX25_oneStep_342 (lw_V q1689 q1691 qs36 q78 q1692) rfl ⟨by decide +kernel, by decide +kernel, by show _ = some (6 : Nat); decide +kernel⟩ ⟨Nat.le_of_ble_eq_true rfl, Nat.le_of_ble_eq_true rfl, Nat.le_of_ble_eq_true rfl, Nat.le_of_ble_eq_true rfl, Nat.le_of_ble_eq_true rfl⟩ (fun q => by cases q) rfl jc_25 rfl (jj_keq ?_) jj_kno
        exact jj_vret (pc := 345) hX dX25_oneStep_345 hr ⟨Nat.le_refl _, Nat.le_refl _⟩ (⟨rfl, rfl, rfl, rfl, rfl⟩)
      · refine jj_aload_n (pc := 323) hX dX25_oneStep_323 rfl ?_
        refine jj_iload_n (pc := 324) hX dX25_oneStep_324 rfl ?_
        refine jj_iload (pc := 325) hX dX25_oneStep_325 rfl ?_
        rw [e10, e9, if_neg h162]
        unfold m_s3
        rw [if_neg h320]
        refine jj_callV (pc := 327) hX (w_fails X.1 (m_s2 t 1 σ) t _ ht) dX25_oneStep_327 (lw_V q1677 q1679 qs34 q78 q1680) rfl ⟨by decide +kernel, by decide +kernel, by show _ = some (2 : Nat); decide +kernel⟩ ⟨Nat.le_of_ble_eq_true rfl, Nat.le_of_ble_eq_true rfl, Nat.le_of_ble_eq_true rfl, Nat.le_of_ble_eq_true rfl, Nat.le_of_ble_eq_true rfl⟩ (fun q => by cases q) rfl jc_25 rfl (jj_keq ?_) jj_kno
        exact jj_vret (pc := 330) hX dX25_oneStep_330 hr ⟨Nat.le_refl _, Nat.le_refl _⟩ (⟨rfl, rfl, rfl, rfl, rfl⟩)
  · refine jj_aload_n (pc := 108) hX dX25_oneStep_108 rfl ?_
    refine jj_iload_n (pc := 109) hX dX25_oneStep_109 rfl ?_
    refine jj_bipush (pc := 110) hX (v := 8) dX25_oneStep_110 (by decide) ?_
    have e10 : (m_s5 t 15 a σ) = m_fails t 8 σ := by unfold m_s5; rw [htk]; exact if_neg h105
    rw [e10]
    refine jj_callV (pc := 112) hX (w_fails X.1 σ t _ ht) dX25_oneStep_112 (lw_V q1677 q1679 qs34 q78 q1680) rfl ⟨by decide +kernel, by decide +kernel, by show _ = some (2 : Nat); decide +kernel⟩ ⟨Nat.le_of_ble_eq_true rfl, Nat.le_of_ble_eq_true rfl, Nat.le_of_ble_eq_true rfl, Nat.le_of_ble_eq_true rfl, Nat.le_of_ble_eq_true rfl⟩ (fun q => by cases q) rfl jc_25 rfl (jj_keq ?_) jj_kno
    exact jj_vret (pc := 115) hX dX25_oneStep_115 hr ⟨Nat.le_refl _, Nat.le_refl _⟩ (⟨rfl, rfl, rfl, rfl, rfl⟩)

theorem w_os_16 {X : jj_X} (hX : jj_ok X cX25_oneStep "BranchCellsModel" 15 5 141 0 0) (hr : jj_Ret X none) (σ : jm) (t : Nat) (a : Int32) (ht : t < 85) (hp : jb (σ.1 32 t) 12) (hD : ∀ x xh y, m_ok1 t 16 x xh y σ → m_fault t 16 a x y (m_s2 t 1 σ) ≤ 0 → jm_M X.1 yX25_does cX25_does 10 none 4 112 [jI (nI t), jI 16, jI a, jL x, jI xh, jL y] (m_s2 t 1 σ) (m_does t 16 a x xh y (m_s2 t 1 σ)) none) : jj_J X (jj_End X (jj_eq none jm_T (m_s5 t 16 a σ).1 (m_s5 t 16 a σ).2 jm_R) jj_no 0 0) 0 0 91 [(0, jR (some 0)), (1, jI (nI t)), (3, jI 16), (4, jI a)] [] jm_T σ.1 σ.2 jm_R := by
  have e9 : m_s4 t 16 a σ = if σ.1 31 (12 * t + nv (σ.1 32 t) - 1) = 0 then (m_s3 t 16 a 1 (σ.2 30 (12 * t + nv (σ.1 32 t) - 1)) 0 0 σ) else (m_s3 t 16 a 1 (σ.2 30 (12 * t + nv (σ.1 32 t) - 1)) 1 0 σ) := rfl
  have htk : m_tk 16 = 1 := rfl
  have hp2 := hp.2
  refine jj_iload_n (pc := 91) hX dX25_oneStep_91 rfl ?_
  refine jj_callS (pc := 92) hX (w_taken X.1 16 (by decide) _ _ _ _) dX25_oneStep_92 (lw_S q1681 q1682 q78 q1683) ⟨by decide +kernel, by decide +kernel, by show _ = some (1 : Nat); decide +kernel⟩ ⟨Nat.le_of_ble_eq_true rfl, Nat.le_of_ble_eq_true rfl, Nat.le_of_ble_eq_true rfl, Nat.le_of_ble_eq_true rfl, Nat.le_of_ble_eq_true rfl⟩ (fun q => by cases q) rfl (jj_keq ?_) jj_kno
  refine jj_top 1 (by rw [htk]; rfl) ?_
  refine jj_istore (pc := 95) hX dX25_oneStep_95 (by decide) ?_
  refine jj_aload_n (pc := 97) hX dX25_oneStep_97 rfl ?_
  refine jj_getR (pc := 98) hX (x := some 32) fl_X25_93_25 dX25_oneStep_98 rfl rfl rfl ?_
  refine jj_iload_n (pc := 101) hX dX25_oneStep_101 rfl ?_
  refine jj_iald (pc := 102) hX t dX25_oneStep_102 rfl rfl rfl ⟨by omega, by omega⟩ ?_
  refine jj_iload (pc := 103) hX dX25_oneStep_103 rfl ?_
  refine jj_icmp_ge (pc := 105) hX 116 dX25_oneStep_105 rfl (fun h105 => ?_) (fun h105 => ?_)
  · have e10 : (m_s5 t 16 a σ) = m_s4 t 16 a σ := by unfold m_s5; rw [htk]; exact if_pos h105
    have h9 := jb_ge hp (c := 1) (m := 1) rfl (by decide) (by decide) h105
    refine jj_bipush (pc := 116) hX (v := 12) dX25_oneStep_116 (by decide) ?_
    refine jj_iload_n (pc := 118) hX dX25_oneStep_118 rfl ?_
    refine jj_imul (pc := 119) hX dX25_oneStep_119 ?_
    refine jj_aload_n (pc := 120) hX dX25_oneStep_120 rfl ?_
    refine jj_getR (pc := 121) hX (x := some 32) fl_X25_93_25 dX25_oneStep_121 rfl rfl rfl ?_
    refine jj_iload_n (pc := 124) hX dX25_oneStep_124 rfl ?_
    refine jj_iald (pc := 125) hX t dX25_oneStep_125 rfl rfl rfl ⟨by omega, by omega⟩ ?_
    refine jj_iadd (pc := 126) hX dX25_oneStep_126 ?_
    refine jj_iload (pc := 127) hX dX25_oneStep_127 rfl ?_
    refine jj_isub (pc := 129) hX dX25_oneStep_129 ?_
    refine jj_istore (pc := 130) hX dX25_oneStep_130 (by decide) ?_
    refine jj_iload (pc := 132) hX dX25_oneStep_132 rfl ?_
    refine jj_if_le (pc := 134) hX 147 dX25_oneStep_134 rfl (fun q => absurd q (by decide)) (fun _ => ?_)
    refine jj_aload_n (pc := 137) hX dX25_oneStep_137 rfl ?_
    refine jj_getR (pc := 138) hX (x := some 30) fl_X25_87_25 dX25_oneStep_138 rfl rfl rfl ?_
    refine jj_iload (pc := 141) hX dX25_oneStep_141 rfl ?_
    refine jj_lald (pc := 143) hX (((12 * t) + nv (σ.1 32 t)) - 1) dX25_oneStep_143 rfl rfl (ix_sub (ix_add (ix_mul rfl rfl) hp.1) rfl (by omega)) ⟨by omega, by omega⟩ ?_
    refine jj_goto (pc := 144) hX 148 dX25_oneStep_144 rfl ?_
    refine jj_lstore (pc := 148) hX dX25_oneStep_148 (by decide) ?_
    refine jj_iload (pc := 150) hX dX25_oneStep_150 rfl ?_
    refine jj_if_le (pc := 152) hX 169 dX25_oneStep_152 rfl (fun q => absurd q (by decide)) (fun _ => ?_)
    refine jj_aload_n (pc := 155) hX dX25_oneStep_155 rfl ?_
    refine jj_getR (pc := 156) hX (x := some 31) fl_X25_90_25 dX25_oneStep_156 rfl rfl rfl ?_
    refine jj_iload (pc := 159) hX dX25_oneStep_159 rfl ?_
    refine jj_zald (pc := 161) hX (((12 * t) + nv (σ.1 32 t)) - 1) dX25_oneStep_161 rfl rfl (ix_sub (ix_add (ix_mul rfl rfl) hp.1) rfl (by omega)) ⟨by omega, by omega⟩ ?_
    refine jj_if_eq (pc := 162) hX 169 dX25_oneStep_162 rfl (fun h162 => ?_) (fun h162 => ?_)
    · refine jj_iconst (pc := 169) hX (v := 0) dX25_oneStep_169 (by decide) ?_
      refine jj_istore (pc := 170) hX dX25_oneStep_170 (by decide) ?_
      refine jj_iload (pc := 172) hX dX25_oneStep_172 rfl ?_
      refine jj_iconst (pc := 174) hX (v := 1) dX25_oneStep_174 (by decide) ?_
      refine jj_icmp_le (pc := 175) hX 190 dX25_oneStep_175 rfl (fun _ => ?_) (fun q => absurd (by decide) q)
      refine jj_lconst (pc := 190) hX (v := 0) dX25_oneStep_190 (by decide) ?_
      refine jj_lstore (pc := 191) hX dX25_oneStep_191 (by decide) ?_
      refine jj_iload (pc := 193) hX dX25_oneStep_193 rfl ?_
      refine jj_iconst (pc := 195) hX (v := 1) dX25_oneStep_195 (by decide) ?_
      refine jj_icmp_le (pc := 196) hX 215 dX25_oneStep_196 rfl (fun _ => ?_) (fun q => absurd (by decide) q)
      refine jj_iconst (pc := 215) hX (v := 0) dX25_oneStep_215 (by decide) ?_
      refine jj_istore (pc := 216) hX dX25_oneStep_216 (by decide) ?_
      refine jj_aload_n (pc := 218) hX dX25_oneStep_218 rfl ?_
      refine jj_getR (pc := 219) hX (x := some 32) fl_X25_93_25 dX25_oneStep_219 rfl rfl rfl ?_
      refine jj_iload_n (pc := 222) hX dX25_oneStep_222 rfl ?_
      refine jj_dup2 (pc := 223) hX dX25_oneStep_223 rfl rfl ?_
      refine jj_iald (pc := 224) hX t dX25_oneStep_224 rfl rfl rfl ⟨by omega, by omega⟩ ?_
      refine jj_iload (pc := 225) hX dX25_oneStep_225 rfl ?_
      refine jj_isub (pc := 227) hX dX25_oneStep_227 ?_
      refine jj_iast (pc := 228) hX t dX25_oneStep_228 rfl rfl ⟨by omega, by omega⟩ ?_
      refine jj_mem (m_s2 t 1 σ) rfl rfl ?_
      refine jj_iload_n (pc := 229) hX dX25_oneStep_229 rfl ?_
      refine jj_bipush (pc := 230) hX (v := 15) dX25_oneStep_230 (by decide) ?_
      refine jj_icmp_eq (pc := 232) hX 253 dX25_oneStep_232 rfl (fun q => absurd q (by decide)) (fun _ => ?_)
      refine jj_iload_n (pc := 235) hX dX25_oneStep_235 rfl ?_
      refine jj_bipush (pc := 236) hX (v := 16) dX25_oneStep_236 (by decide) ?_
      refine jj_icmp_eq (pc := 238) hX 253 dX25_oneStep_238 rfl (fun _ => ?_) (fun q => absurd (by decide) q)
      refine jj_iconst (pc := 253) hX (v := 1) dX25_oneStep_253 (by decide) ?_
      refine jj_goto (pc := 254) hX 258 dX25_oneStep_254 rfl ?_
      refine jj_istore (pc := 258) hX dX25_oneStep_258 (by decide) ?_
      refine jj_iload (pc := 260) hX dX25_oneStep_260 rfl ?_
      refine jj_iconst (pc := 262) hX (v := 1) dX25_oneStep_262 (by decide) ?_
      refine jj_icmp_le (pc := 263) hX 271 dX25_oneStep_263 rfl (fun _ => ?_) (fun q => absurd (by decide) q)
      refine jj_iload (pc := 271) hX dX25_oneStep_271 rfl ?_
      refine jj_if_le (pc := 273) hX 304 dX25_oneStep_273 rfl (fun q => absurd q (by decide)) (fun _ => ?_)
      refine jj_iload (pc := 276) hX dX25_oneStep_276 rfl ?_
      refine jj_if_ne (pc := 278) hX 304 dX25_oneStep_278 rfl (fun _ => ?_) (fun q => absurd q (by decide))
      refine jj_aload_n (pc := 304) hX dX25_oneStep_304 rfl ?_
      refine jj_iload_n (pc := 305) hX dX25_oneStep_305 rfl ?_
      refine jj_iload_n (pc := 306) hX dX25_oneStep_306 rfl ?_
      refine jj_iload (pc := 307) hX dX25_oneStep_307 rfl ?_
      refine jj_lload (pc := 309) hX dX25_oneStep_309 rfl ?_
      refine jj_lload (pc := 311) hX dX25_oneStep_311 rfl ?_
      refine jj_callV (pc := 313) hX (w_faultOf X.1 (m_s2 t 1 σ) t 16 _ _ _ ht (by decide)) dX25_oneStep_313 (lw_V q1684 q1686 qs35 q78 q1687) rfl ⟨by decide +kernel, by decide +kernel, by show _ = some (5 : Nat); decide +kernel⟩ ⟨Nat.le_of_ble_eq_true rfl, Nat.le_of_ble_eq_true rfl, Nat.le_of_ble_eq_true rfl, Nat.le_of_ble_eq_true rfl, Nat.le_of_ble_eq_true rfl⟩ (fun q => by cases q) rfl jc_25 rfl (jj_keq ?_) jj_kno
      refine jj_istore (pc := 316) hX dX25_oneStep_316 (by decide) ?_
      refine jj_iload (pc := 318) hX dX25_oneStep_318 rfl ?_
      refine jj_if_le (pc := 320) hX 331 dX25_oneStep_320 rfl (fun h320 => ?_) (fun h320 => ?_)
      · refine jj_aload_n (pc := 331) hX dX25_oneStep_331 rfl ?_
        refine jj_iload_n (pc := 332) hX dX25_oneStep_332 rfl ?_
        refine jj_iload_n (pc := 333) hX dX25_oneStep_333 rfl ?_
        refine jj_iload (pc := 334) hX dX25_oneStep_334 rfl ?_
        refine jj_lload (pc := 336) hX dX25_oneStep_336 rfl ?_
        refine jj_iload (pc := 338) hX dX25_oneStep_338 rfl ?_
        refine jj_lload (pc := 340) hX dX25_oneStep_340 rfl ?_
        rw [e10, e9, if_pos h162]
        unfold m_s3
        rw [if_pos h320]
        refine jj_callV (pc := 342) hX (hD _ _ _ ⟨rfl, rfl, h9, Or.inl ⟨rfl, h162, by decide⟩⟩ h320) dX25_oneStep_342 (lw_V q1689 q1691 qs36 q78 q1692) rfl ⟨by decide +kernel, by decide +kernel, by show _ = some (6 : Nat); decide +kernel⟩ ⟨Nat.le_of_ble_eq_true rfl, Nat.le_of_ble_eq_true rfl, Nat.le_of_ble_eq_true rfl, Nat.le_of_ble_eq_true rfl, Nat.le_of_ble_eq_true rfl⟩ (fun q => by cases q) rfl jc_25 rfl (jj_keq ?_) jj_kno
        exact jj_vret (pc := 345) hX dX25_oneStep_345 hr ⟨Nat.le_refl _, Nat.le_refl _⟩ (⟨rfl, rfl, rfl, rfl, rfl⟩)
      · refine jj_aload_n (pc := 323) hX dX25_oneStep_323 rfl ?_
        refine jj_iload_n (pc := 324) hX dX25_oneStep_324 rfl ?_
        refine jj_iload (pc := 325) hX dX25_oneStep_325 rfl ?_
        rw [e10, e9, if_pos h162]
        unfold m_s3
        rw [if_neg h320]
        refine jj_callV (pc := 327) hX (w_fails X.1 (m_s2 t 1 σ) t _ ht) dX25_oneStep_327 (lw_V q1677 q1679 qs34 q78 q1680) rfl ⟨by decide +kernel, by decide +kernel, by show _ = some (2 : Nat); decide +kernel⟩ ⟨Nat.le_of_ble_eq_true rfl, Nat.le_of_ble_eq_true rfl, Nat.le_of_ble_eq_true rfl, Nat.le_of_ble_eq_true rfl, Nat.le_of_ble_eq_true rfl⟩ (fun q => by cases q) rfl jc_25 rfl (jj_keq ?_) jj_kno
        exact jj_vret (pc := 330) hX dX25_oneStep_330 hr ⟨Nat.le_refl _, Nat.le_refl _⟩ (⟨rfl, rfl, rfl, rfl, rfl⟩)
    · refine jj_iconst (pc := 165) hX (v := 1) dX25_oneStep_165 (by decide) ?_
      refine jj_goto (pc := 166) hX 170 dX25_oneStep_166 rfl ?_
      refine jj_istore (pc := 170) hX dX25_oneStep_170 (by decide) ?_
      refine jj_iload (pc := 172) hX dX25_oneStep_172 rfl ?_
      refine jj_iconst (pc := 174) hX (v := 1) dX25_oneStep_174 (by decide) ?_
      refine jj_icmp_le (pc := 175) hX 190 dX25_oneStep_175 rfl (fun _ => ?_) (fun q => absurd (by decide) q)
      refine jj_lconst (pc := 190) hX (v := 0) dX25_oneStep_190 (by decide) ?_
      refine jj_lstore (pc := 191) hX dX25_oneStep_191 (by decide) ?_
      refine jj_iload (pc := 193) hX dX25_oneStep_193 rfl ?_
      refine jj_iconst (pc := 195) hX (v := 1) dX25_oneStep_195 (by decide) ?_
      refine jj_icmp_le (pc := 196) hX 215 dX25_oneStep_196 rfl (fun _ => ?_) (fun q => absurd (by decide) q)
      refine jj_iconst (pc := 215) hX (v := 0) dX25_oneStep_215 (by decide) ?_
      refine jj_istore (pc := 216) hX dX25_oneStep_216 (by decide) ?_
      refine jj_aload_n (pc := 218) hX dX25_oneStep_218 rfl ?_
      refine jj_getR (pc := 219) hX (x := some 32) fl_X25_93_25 dX25_oneStep_219 rfl rfl rfl ?_
      refine jj_iload_n (pc := 222) hX dX25_oneStep_222 rfl ?_
      refine jj_dup2 (pc := 223) hX dX25_oneStep_223 rfl rfl ?_
      refine jj_iald (pc := 224) hX t dX25_oneStep_224 rfl rfl rfl ⟨by omega, by omega⟩ ?_
      refine jj_iload (pc := 225) hX dX25_oneStep_225 rfl ?_
      refine jj_isub (pc := 227) hX dX25_oneStep_227 ?_
      refine jj_iast (pc := 228) hX t dX25_oneStep_228 rfl rfl ⟨by omega, by omega⟩ ?_
      refine jj_mem (m_s2 t 1 σ) rfl rfl ?_
      refine jj_iload_n (pc := 229) hX dX25_oneStep_229 rfl ?_
      refine jj_bipush (pc := 230) hX (v := 15) dX25_oneStep_230 (by decide) ?_
      refine jj_icmp_eq (pc := 232) hX 253 dX25_oneStep_232 rfl (fun q => absurd q (by decide)) (fun _ => ?_)
      refine jj_iload_n (pc := 235) hX dX25_oneStep_235 rfl ?_
      refine jj_bipush (pc := 236) hX (v := 16) dX25_oneStep_236 (by decide) ?_
      refine jj_icmp_eq (pc := 238) hX 253 dX25_oneStep_238 rfl (fun _ => ?_) (fun q => absurd (by decide) q)
      refine jj_iconst (pc := 253) hX (v := 1) dX25_oneStep_253 (by decide) ?_
      refine jj_goto (pc := 254) hX 258 dX25_oneStep_254 rfl ?_
      refine jj_istore (pc := 258) hX dX25_oneStep_258 (by decide) ?_
      refine jj_iload (pc := 260) hX dX25_oneStep_260 rfl ?_
      refine jj_iconst (pc := 262) hX (v := 1) dX25_oneStep_262 (by decide) ?_
      refine jj_icmp_le (pc := 263) hX 271 dX25_oneStep_263 rfl (fun _ => ?_) (fun q => absurd (by decide) q)
      refine jj_iload (pc := 271) hX dX25_oneStep_271 rfl ?_
      refine jj_if_le (pc := 273) hX 304 dX25_oneStep_273 rfl (fun q => absurd q (by decide)) (fun _ => ?_)
      refine jj_iload (pc := 276) hX dX25_oneStep_276 rfl ?_
      refine jj_if_ne (pc := 278) hX 304 dX25_oneStep_278 rfl (fun _ => ?_) (fun q => absurd q (by decide))
      refine jj_aload_n (pc := 304) hX dX25_oneStep_304 rfl ?_
      refine jj_iload_n (pc := 305) hX dX25_oneStep_305 rfl ?_
      refine jj_iload_n (pc := 306) hX dX25_oneStep_306 rfl ?_
      refine jj_iload (pc := 307) hX dX25_oneStep_307 rfl ?_
      refine jj_lload (pc := 309) hX dX25_oneStep_309 rfl ?_
      refine jj_lload (pc := 311) hX dX25_oneStep_311 rfl ?_
      refine jj_callV (pc := 313) hX (w_faultOf X.1 (m_s2 t 1 σ) t 16 _ _ _ ht (by decide)) dX25_oneStep_313 (lw_V q1684 q1686 qs35 q78 q1687) rfl ⟨by decide +kernel, by decide +kernel, by show _ = some (5 : Nat); decide +kernel⟩ ⟨Nat.le_of_ble_eq_true rfl, Nat.le_of_ble_eq_true rfl, Nat.le_of_ble_eq_true rfl, Nat.le_of_ble_eq_true rfl, Nat.le_of_ble_eq_true rfl⟩ (fun q => by cases q) rfl jc_25 rfl (jj_keq ?_) jj_kno
      refine jj_istore (pc := 316) hX dX25_oneStep_316 (by decide) ?_
      refine jj_iload (pc := 318) hX dX25_oneStep_318 rfl ?_
      refine jj_if_le (pc := 320) hX 331 dX25_oneStep_320 rfl (fun h320 => ?_) (fun h320 => ?_)
      · refine jj_aload_n (pc := 331) hX dX25_oneStep_331 rfl ?_
        refine jj_iload_n (pc := 332) hX dX25_oneStep_332 rfl ?_
        refine jj_iload_n (pc := 333) hX dX25_oneStep_333 rfl ?_
        refine jj_iload (pc := 334) hX dX25_oneStep_334 rfl ?_
        refine jj_lload (pc := 336) hX dX25_oneStep_336 rfl ?_
        refine jj_iload (pc := 338) hX dX25_oneStep_338 rfl ?_
        refine jj_lload (pc := 340) hX dX25_oneStep_340 rfl ?_
        rw [e10, e9, if_neg h162]
        unfold m_s3
        rw [if_pos h320]
        refine jj_callV (pc := 342) hX (hD _ _ _ ⟨rfl, rfl, h9, Or.inr ⟨rfl, h162, by decide⟩⟩ h320) dX25_oneStep_342 (lw_V q1689 q1691 qs36 q78 q1692) rfl ⟨by decide +kernel, by decide +kernel, by show _ = some (6 : Nat); decide +kernel⟩ ⟨Nat.le_of_ble_eq_true rfl, Nat.le_of_ble_eq_true rfl, Nat.le_of_ble_eq_true rfl, Nat.le_of_ble_eq_true rfl, Nat.le_of_ble_eq_true rfl⟩ (fun q => by cases q) rfl jc_25 rfl (jj_keq ?_) jj_kno
        exact jj_vret (pc := 345) hX dX25_oneStep_345 hr ⟨Nat.le_refl _, Nat.le_refl _⟩ (⟨rfl, rfl, rfl, rfl, rfl⟩)
      · refine jj_aload_n (pc := 323) hX dX25_oneStep_323 rfl ?_
        refine jj_iload_n (pc := 324) hX dX25_oneStep_324 rfl ?_
        refine jj_iload (pc := 325) hX dX25_oneStep_325 rfl ?_
        rw [e10, e9, if_neg h162]
        unfold m_s3
        rw [if_neg h320]
        refine jj_callV (pc := 327) hX (w_fails X.1 (m_s2 t 1 σ) t _ ht) dX25_oneStep_327 (lw_V q1677 q1679 qs34 q78 q1680) rfl ⟨by decide +kernel, by decide +kernel, by show _ = some (2 : Nat); decide +kernel⟩ ⟨Nat.le_of_ble_eq_true rfl, Nat.le_of_ble_eq_true rfl, Nat.le_of_ble_eq_true rfl, Nat.le_of_ble_eq_true rfl, Nat.le_of_ble_eq_true rfl⟩ (fun q => by cases q) rfl jc_25 rfl (jj_keq ?_) jj_kno
        exact jj_vret (pc := 330) hX dX25_oneStep_330 hr ⟨Nat.le_refl _, Nat.le_refl _⟩ (⟨rfl, rfl, rfl, rfl, rfl⟩)
  · refine jj_aload_n (pc := 108) hX dX25_oneStep_108 rfl ?_
    refine jj_iload_n (pc := 109) hX dX25_oneStep_109 rfl ?_
    refine jj_bipush (pc := 110) hX (v := 8) dX25_oneStep_110 (by decide) ?_
    have e10 : (m_s5 t 16 a σ) = m_fails t 8 σ := by unfold m_s5; rw [htk]; exact if_neg h105
    rw [e10]
    refine jj_callV (pc := 112) hX (w_fails X.1 σ t _ ht) dX25_oneStep_112 (lw_V q1677 q1679 qs34 q78 q1680) rfl ⟨by decide +kernel, by decide +kernel, by show _ = some (2 : Nat); decide +kernel⟩ ⟨Nat.le_of_ble_eq_true rfl, Nat.le_of_ble_eq_true rfl, Nat.le_of_ble_eq_true rfl, Nat.le_of_ble_eq_true rfl, Nat.le_of_ble_eq_true rfl⟩ (fun q => by cases q) rfl jc_25 rfl (jj_keq ?_) jj_kno
    exact jj_vret (pc := 115) hX dX25_oneStep_115 hr ⟨Nat.le_refl _, Nat.le_refl _⟩ (⟨rfl, rfl, rfl, rfl, rfl⟩)

theorem w_os_17 {X : jj_X} (hX : jj_ok X cX25_oneStep "BranchCellsModel" 15 5 141 0 0) (hr : jj_Ret X none) (σ : jm) (t : Nat) (a : Int32) (ht : t < 85) (hp : jb (σ.1 32 t) 12) (hD : ∀ x xh y, m_ok1 t 17 x xh y σ → m_fault t 17 a x y (m_s2 t 1 σ) ≤ 0 → jm_M X.1 yX25_does cX25_does 10 none 4 112 [jI (nI t), jI 17, jI a, jL x, jI xh, jL y] (m_s2 t 1 σ) (m_does t 17 a x xh y (m_s2 t 1 σ)) none) : jj_J X (jj_End X (jj_eq none jm_T (m_s5 t 17 a σ).1 (m_s5 t 17 a σ).2 jm_R) jj_no 0 0) 0 0 91 [(0, jR (some 0)), (1, jI (nI t)), (3, jI 17), (4, jI a)] [] jm_T σ.1 σ.2 jm_R := by
  have e9 : m_s4 t 17 a σ = if σ.1 31 (12 * t + nv (σ.1 32 t) - 1) = 0 then (m_s3 t 17 a 1 (σ.2 30 (12 * t + nv (σ.1 32 t) - 1)) 0 0 σ) else (m_s3 t 17 a 1 (σ.2 30 (12 * t + nv (σ.1 32 t) - 1)) 1 0 σ) := rfl
  have htk : m_tk 17 = 1 := rfl
  have hp2 := hp.2
  refine jj_iload_n (pc := 91) hX dX25_oneStep_91 rfl ?_
  refine jj_callS (pc := 92) hX (w_taken X.1 17 (by decide) _ _ _ _) dX25_oneStep_92 (lw_S q1681 q1682 q78 q1683) ⟨by decide +kernel, by decide +kernel, by show _ = some (1 : Nat); decide +kernel⟩ ⟨Nat.le_of_ble_eq_true rfl, Nat.le_of_ble_eq_true rfl, Nat.le_of_ble_eq_true rfl, Nat.le_of_ble_eq_true rfl, Nat.le_of_ble_eq_true rfl⟩ (fun q => by cases q) rfl (jj_keq ?_) jj_kno
  refine jj_top 1 (by rw [htk]; rfl) ?_
  refine jj_istore (pc := 95) hX dX25_oneStep_95 (by decide) ?_
  refine jj_aload_n (pc := 97) hX dX25_oneStep_97 rfl ?_
  refine jj_getR (pc := 98) hX (x := some 32) fl_X25_93_25 dX25_oneStep_98 rfl rfl rfl ?_
  refine jj_iload_n (pc := 101) hX dX25_oneStep_101 rfl ?_
  refine jj_iald (pc := 102) hX t dX25_oneStep_102 rfl rfl rfl ⟨by omega, by omega⟩ ?_
  refine jj_iload (pc := 103) hX dX25_oneStep_103 rfl ?_
  refine jj_icmp_ge (pc := 105) hX 116 dX25_oneStep_105 rfl (fun h105 => ?_) (fun h105 => ?_)
  · have e10 : (m_s5 t 17 a σ) = m_s4 t 17 a σ := by unfold m_s5; rw [htk]; exact if_pos h105
    have h9 := jb_ge hp (c := 1) (m := 1) rfl (by decide) (by decide) h105
    refine jj_bipush (pc := 116) hX (v := 12) dX25_oneStep_116 (by decide) ?_
    refine jj_iload_n (pc := 118) hX dX25_oneStep_118 rfl ?_
    refine jj_imul (pc := 119) hX dX25_oneStep_119 ?_
    refine jj_aload_n (pc := 120) hX dX25_oneStep_120 rfl ?_
    refine jj_getR (pc := 121) hX (x := some 32) fl_X25_93_25 dX25_oneStep_121 rfl rfl rfl ?_
    refine jj_iload_n (pc := 124) hX dX25_oneStep_124 rfl ?_
    refine jj_iald (pc := 125) hX t dX25_oneStep_125 rfl rfl rfl ⟨by omega, by omega⟩ ?_
    refine jj_iadd (pc := 126) hX dX25_oneStep_126 ?_
    refine jj_iload (pc := 127) hX dX25_oneStep_127 rfl ?_
    refine jj_isub (pc := 129) hX dX25_oneStep_129 ?_
    refine jj_istore (pc := 130) hX dX25_oneStep_130 (by decide) ?_
    refine jj_iload (pc := 132) hX dX25_oneStep_132 rfl ?_
    refine jj_if_le (pc := 134) hX 147 dX25_oneStep_134 rfl (fun q => absurd q (by decide)) (fun _ => ?_)
    refine jj_aload_n (pc := 137) hX dX25_oneStep_137 rfl ?_
    refine jj_getR (pc := 138) hX (x := some 30) fl_X25_87_25 dX25_oneStep_138 rfl rfl rfl ?_
    refine jj_iload (pc := 141) hX dX25_oneStep_141 rfl ?_
    refine jj_lald (pc := 143) hX (((12 * t) + nv (σ.1 32 t)) - 1) dX25_oneStep_143 rfl rfl (ix_sub (ix_add (ix_mul rfl rfl) hp.1) rfl (by omega)) ⟨by omega, by omega⟩ ?_
    refine jj_goto (pc := 144) hX 148 dX25_oneStep_144 rfl ?_
    refine jj_lstore (pc := 148) hX dX25_oneStep_148 (by decide) ?_
    refine jj_iload (pc := 150) hX dX25_oneStep_150 rfl ?_
    refine jj_if_le (pc := 152) hX 169 dX25_oneStep_152 rfl (fun q => absurd q (by decide)) (fun _ => ?_)
    refine jj_aload_n (pc := 155) hX dX25_oneStep_155 rfl ?_
    refine jj_getR (pc := 156) hX (x := some 31) fl_X25_90_25 dX25_oneStep_156 rfl rfl rfl ?_
    refine jj_iload (pc := 159) hX dX25_oneStep_159 rfl ?_
    refine jj_zald (pc := 161) hX (((12 * t) + nv (σ.1 32 t)) - 1) dX25_oneStep_161 rfl rfl (ix_sub (ix_add (ix_mul rfl rfl) hp.1) rfl (by omega)) ⟨by omega, by omega⟩ ?_
    refine jj_if_eq (pc := 162) hX 169 dX25_oneStep_162 rfl (fun h162 => ?_) (fun h162 => ?_)
    · refine jj_iconst (pc := 169) hX (v := 0) dX25_oneStep_169 (by decide) ?_
      refine jj_istore (pc := 170) hX dX25_oneStep_170 (by decide) ?_
      refine jj_iload (pc := 172) hX dX25_oneStep_172 rfl ?_
      refine jj_iconst (pc := 174) hX (v := 1) dX25_oneStep_174 (by decide) ?_
      refine jj_icmp_le (pc := 175) hX 190 dX25_oneStep_175 rfl (fun _ => ?_) (fun q => absurd (by decide) q)
      refine jj_lconst (pc := 190) hX (v := 0) dX25_oneStep_190 (by decide) ?_
      refine jj_lstore (pc := 191) hX dX25_oneStep_191 (by decide) ?_
      refine jj_iload (pc := 193) hX dX25_oneStep_193 rfl ?_
      refine jj_iconst (pc := 195) hX (v := 1) dX25_oneStep_195 (by decide) ?_
      refine jj_icmp_le (pc := 196) hX 215 dX25_oneStep_196 rfl (fun _ => ?_) (fun q => absurd (by decide) q)
      refine jj_iconst (pc := 215) hX (v := 0) dX25_oneStep_215 (by decide) ?_
      refine jj_istore (pc := 216) hX dX25_oneStep_216 (by decide) ?_
      refine jj_aload_n (pc := 218) hX dX25_oneStep_218 rfl ?_
      refine jj_getR (pc := 219) hX (x := some 32) fl_X25_93_25 dX25_oneStep_219 rfl rfl rfl ?_
      refine jj_iload_n (pc := 222) hX dX25_oneStep_222 rfl ?_
      refine jj_dup2 (pc := 223) hX dX25_oneStep_223 rfl rfl ?_
      refine jj_iald (pc := 224) hX t dX25_oneStep_224 rfl rfl rfl ⟨by omega, by omega⟩ ?_
      refine jj_iload (pc := 225) hX dX25_oneStep_225 rfl ?_
      refine jj_isub (pc := 227) hX dX25_oneStep_227 ?_
      refine jj_iast (pc := 228) hX t dX25_oneStep_228 rfl rfl ⟨by omega, by omega⟩ ?_
      refine jj_mem (m_s2 t 1 σ) rfl rfl ?_
      refine jj_iload_n (pc := 229) hX dX25_oneStep_229 rfl ?_
      refine jj_bipush (pc := 230) hX (v := 15) dX25_oneStep_230 (by decide) ?_
      refine jj_icmp_eq (pc := 232) hX 253 dX25_oneStep_232 rfl (fun q => absurd q (by decide)) (fun _ => ?_)
      refine jj_iload_n (pc := 235) hX dX25_oneStep_235 rfl ?_
      refine jj_bipush (pc := 236) hX (v := 16) dX25_oneStep_236 (by decide) ?_
      refine jj_icmp_eq (pc := 238) hX 253 dX25_oneStep_238 rfl (fun q => absurd q (by decide)) (fun _ => ?_)
      refine jj_iload_n (pc := 241) hX dX25_oneStep_241 rfl ?_
      refine jj_bipush (pc := 242) hX (v := 17) dX25_oneStep_242 (by decide) ?_
      refine jj_icmp_eq (pc := 244) hX 253 dX25_oneStep_244 rfl (fun _ => ?_) (fun q => absurd (by decide) q)
      refine jj_iconst (pc := 253) hX (v := 1) dX25_oneStep_253 (by decide) ?_
      refine jj_goto (pc := 254) hX 258 dX25_oneStep_254 rfl ?_
      refine jj_istore (pc := 258) hX dX25_oneStep_258 (by decide) ?_
      refine jj_iload (pc := 260) hX dX25_oneStep_260 rfl ?_
      refine jj_iconst (pc := 262) hX (v := 1) dX25_oneStep_262 (by decide) ?_
      refine jj_icmp_le (pc := 263) hX 271 dX25_oneStep_263 rfl (fun _ => ?_) (fun q => absurd (by decide) q)
      refine jj_iload (pc := 271) hX dX25_oneStep_271 rfl ?_
      refine jj_if_le (pc := 273) hX 304 dX25_oneStep_273 rfl (fun q => absurd q (by decide)) (fun _ => ?_)
      refine jj_iload (pc := 276) hX dX25_oneStep_276 rfl ?_
      refine jj_if_ne (pc := 278) hX 304 dX25_oneStep_278 rfl (fun _ => ?_) (fun q => absurd q (by decide))
      refine jj_aload_n (pc := 304) hX dX25_oneStep_304 rfl ?_
      refine jj_iload_n (pc := 305) hX dX25_oneStep_305 rfl ?_
      refine jj_iload_n (pc := 306) hX dX25_oneStep_306 rfl ?_
      refine jj_iload (pc := 307) hX dX25_oneStep_307 rfl ?_
      refine jj_lload (pc := 309) hX dX25_oneStep_309 rfl ?_
      refine jj_lload (pc := 311) hX dX25_oneStep_311 rfl ?_
      refine jj_callV (pc := 313) hX (w_faultOf X.1 (m_s2 t 1 σ) t 17 _ _ _ ht (by decide)) dX25_oneStep_313 (lw_V q1684 q1686 qs35 q78 q1687) rfl ⟨by decide +kernel, by decide +kernel, by show _ = some (5 : Nat); decide +kernel⟩ ⟨Nat.le_of_ble_eq_true rfl, Nat.le_of_ble_eq_true rfl, Nat.le_of_ble_eq_true rfl, Nat.le_of_ble_eq_true rfl, Nat.le_of_ble_eq_true rfl⟩ (fun q => by cases q) rfl jc_25 rfl (jj_keq ?_) jj_kno
      refine jj_istore (pc := 316) hX dX25_oneStep_316 (by decide) ?_
      refine jj_iload (pc := 318) hX dX25_oneStep_318 rfl ?_
      refine jj_if_le (pc := 320) hX 331 dX25_oneStep_320 rfl (fun h320 => ?_) (fun h320 => ?_)
      · refine jj_aload_n (pc := 331) hX dX25_oneStep_331 rfl ?_
        refine jj_iload_n (pc := 332) hX dX25_oneStep_332 rfl ?_
        refine jj_iload_n (pc := 333) hX dX25_oneStep_333 rfl ?_
        refine jj_iload (pc := 334) hX dX25_oneStep_334 rfl ?_
        refine jj_lload (pc := 336) hX dX25_oneStep_336 rfl ?_
        refine jj_iload (pc := 338) hX dX25_oneStep_338 rfl ?_
        refine jj_lload (pc := 340) hX dX25_oneStep_340 rfl ?_
        rw [e10, e9, if_pos h162]
        unfold m_s3
        rw [if_pos h320]
        refine jj_callV (pc := 342) hX (hD _ _ _ ⟨rfl, rfl, h9, Or.inl ⟨rfl, h162, by decide⟩⟩ h320) dX25_oneStep_342 (lw_V q1689 q1691 qs36 q78 q1692) rfl ⟨by decide +kernel, by decide +kernel, by show _ = some (6 : Nat); decide +kernel⟩ ⟨Nat.le_of_ble_eq_true rfl, Nat.le_of_ble_eq_true rfl, Nat.le_of_ble_eq_true rfl, Nat.le_of_ble_eq_true rfl, Nat.le_of_ble_eq_true rfl⟩ (fun q => by cases q) rfl jc_25 rfl (jj_keq ?_) jj_kno
        exact jj_vret (pc := 345) hX dX25_oneStep_345 hr ⟨Nat.le_refl _, Nat.le_refl _⟩ (⟨rfl, rfl, rfl, rfl, rfl⟩)
      · refine jj_aload_n (pc := 323) hX dX25_oneStep_323 rfl ?_
        refine jj_iload_n (pc := 324) hX dX25_oneStep_324 rfl ?_
        refine jj_iload (pc := 325) hX dX25_oneStep_325 rfl ?_
        rw [e10, e9, if_pos h162]
        unfold m_s3
        rw [if_neg h320]
        refine jj_callV (pc := 327) hX (w_fails X.1 (m_s2 t 1 σ) t _ ht) dX25_oneStep_327 (lw_V q1677 q1679 qs34 q78 q1680) rfl ⟨by decide +kernel, by decide +kernel, by show _ = some (2 : Nat); decide +kernel⟩ ⟨Nat.le_of_ble_eq_true rfl, Nat.le_of_ble_eq_true rfl, Nat.le_of_ble_eq_true rfl, Nat.le_of_ble_eq_true rfl, Nat.le_of_ble_eq_true rfl⟩ (fun q => by cases q) rfl jc_25 rfl (jj_keq ?_) jj_kno
        exact jj_vret (pc := 330) hX dX25_oneStep_330 hr ⟨Nat.le_refl _, Nat.le_refl _⟩ (⟨rfl, rfl, rfl, rfl, rfl⟩)
    · refine jj_iconst (pc := 165) hX (v := 1) dX25_oneStep_165 (by decide) ?_
      refine jj_goto (pc := 166) hX 170 dX25_oneStep_166 rfl ?_
      refine jj_istore (pc := 170) hX dX25_oneStep_170 (by decide) ?_
      refine jj_iload (pc := 172) hX dX25_oneStep_172 rfl ?_
      refine jj_iconst (pc := 174) hX (v := 1) dX25_oneStep_174 (by decide) ?_
      refine jj_icmp_le (pc := 175) hX 190 dX25_oneStep_175 rfl (fun _ => ?_) (fun q => absurd (by decide) q)
      refine jj_lconst (pc := 190) hX (v := 0) dX25_oneStep_190 (by decide) ?_
      refine jj_lstore (pc := 191) hX dX25_oneStep_191 (by decide) ?_
      refine jj_iload (pc := 193) hX dX25_oneStep_193 rfl ?_
      refine jj_iconst (pc := 195) hX (v := 1) dX25_oneStep_195 (by decide) ?_
      refine jj_icmp_le (pc := 196) hX 215 dX25_oneStep_196 rfl (fun _ => ?_) (fun q => absurd (by decide) q)
      refine jj_iconst (pc := 215) hX (v := 0) dX25_oneStep_215 (by decide) ?_
      refine jj_istore (pc := 216) hX dX25_oneStep_216 (by decide) ?_
      refine jj_aload_n (pc := 218) hX dX25_oneStep_218 rfl ?_
      refine jj_getR (pc := 219) hX (x := some 32) fl_X25_93_25 dX25_oneStep_219 rfl rfl rfl ?_
      refine jj_iload_n (pc := 222) hX dX25_oneStep_222 rfl ?_
      refine jj_dup2 (pc := 223) hX dX25_oneStep_223 rfl rfl ?_
      refine jj_iald (pc := 224) hX t dX25_oneStep_224 rfl rfl rfl ⟨by omega, by omega⟩ ?_
      refine jj_iload (pc := 225) hX dX25_oneStep_225 rfl ?_
      refine jj_isub (pc := 227) hX dX25_oneStep_227 ?_
      refine jj_iast (pc := 228) hX t dX25_oneStep_228 rfl rfl ⟨by omega, by omega⟩ ?_
      refine jj_mem (m_s2 t 1 σ) rfl rfl ?_
      refine jj_iload_n (pc := 229) hX dX25_oneStep_229 rfl ?_
      refine jj_bipush (pc := 230) hX (v := 15) dX25_oneStep_230 (by decide) ?_
      refine jj_icmp_eq (pc := 232) hX 253 dX25_oneStep_232 rfl (fun q => absurd q (by decide)) (fun _ => ?_)
      refine jj_iload_n (pc := 235) hX dX25_oneStep_235 rfl ?_
      refine jj_bipush (pc := 236) hX (v := 16) dX25_oneStep_236 (by decide) ?_
      refine jj_icmp_eq (pc := 238) hX 253 dX25_oneStep_238 rfl (fun q => absurd q (by decide)) (fun _ => ?_)
      refine jj_iload_n (pc := 241) hX dX25_oneStep_241 rfl ?_
      refine jj_bipush (pc := 242) hX (v := 17) dX25_oneStep_242 (by decide) ?_
      refine jj_icmp_eq (pc := 244) hX 253 dX25_oneStep_244 rfl (fun _ => ?_) (fun q => absurd (by decide) q)
      refine jj_iconst (pc := 253) hX (v := 1) dX25_oneStep_253 (by decide) ?_
      refine jj_goto (pc := 254) hX 258 dX25_oneStep_254 rfl ?_
      refine jj_istore (pc := 258) hX dX25_oneStep_258 (by decide) ?_
      refine jj_iload (pc := 260) hX dX25_oneStep_260 rfl ?_
      refine jj_iconst (pc := 262) hX (v := 1) dX25_oneStep_262 (by decide) ?_
      refine jj_icmp_le (pc := 263) hX 271 dX25_oneStep_263 rfl (fun _ => ?_) (fun q => absurd (by decide) q)
      refine jj_iload (pc := 271) hX dX25_oneStep_271 rfl ?_
      refine jj_if_le (pc := 273) hX 304 dX25_oneStep_273 rfl (fun q => absurd q (by decide)) (fun _ => ?_)
      refine jj_iload (pc := 276) hX dX25_oneStep_276 rfl ?_
      refine jj_if_ne (pc := 278) hX 304 dX25_oneStep_278 rfl (fun _ => ?_) (fun q => absurd q (by decide))
      refine jj_aload_n (pc := 304) hX dX25_oneStep_304 rfl ?_
      refine jj_iload_n (pc := 305) hX dX25_oneStep_305 rfl ?_
      refine jj_iload_n (pc := 306) hX dX25_oneStep_306 rfl ?_
      refine jj_iload (pc := 307) hX dX25_oneStep_307 rfl ?_
      refine jj_lload (pc := 309) hX dX25_oneStep_309 rfl ?_
      refine jj_lload (pc := 311) hX dX25_oneStep_311 rfl ?_
      refine jj_callV (pc := 313) hX (w_faultOf X.1 (m_s2 t 1 σ) t 17 _ _ _ ht (by decide)) dX25_oneStep_313 (lw_V q1684 q1686 qs35 q78 q1687) rfl ⟨by decide +kernel, by decide +kernel, by show _ = some (5 : Nat); decide +kernel⟩ ⟨Nat.le_of_ble_eq_true rfl, Nat.le_of_ble_eq_true rfl, Nat.le_of_ble_eq_true rfl, Nat.le_of_ble_eq_true rfl, Nat.le_of_ble_eq_true rfl⟩ (fun q => by cases q) rfl jc_25 rfl (jj_keq ?_) jj_kno
      refine jj_istore (pc := 316) hX dX25_oneStep_316 (by decide) ?_
      refine jj_iload (pc := 318) hX dX25_oneStep_318 rfl ?_
      refine jj_if_le (pc := 320) hX 331 dX25_oneStep_320 rfl (fun h320 => ?_) (fun h320 => ?_)
      · refine jj_aload_n (pc := 331) hX dX25_oneStep_331 rfl ?_
        refine jj_iload_n (pc := 332) hX dX25_oneStep_332 rfl ?_
        refine jj_iload_n (pc := 333) hX dX25_oneStep_333 rfl ?_
        refine jj_iload (pc := 334) hX dX25_oneStep_334 rfl ?_
        refine jj_lload (pc := 336) hX dX25_oneStep_336 rfl ?_
        refine jj_iload (pc := 338) hX dX25_oneStep_338 rfl ?_
        refine jj_lload (pc := 340) hX dX25_oneStep_340 rfl ?_
        rw [e10, e9, if_neg h162]
        unfold m_s3
        rw [if_pos h320]
        refine jj_callV (pc := 342) hX (hD _ _ _ ⟨rfl, rfl, h9, Or.inr ⟨rfl, h162, by decide⟩⟩ h320) dX25_oneStep_342 (lw_V q1689 q1691 qs36 q78 q1692) rfl ⟨by decide +kernel, by decide +kernel, by show _ = some (6 : Nat); decide +kernel⟩ ⟨Nat.le_of_ble_eq_true rfl, Nat.le_of_ble_eq_true rfl, Nat.le_of_ble_eq_true rfl, Nat.le_of_ble_eq_true rfl, Nat.le_of_ble_eq_true rfl⟩ (fun q => by cases q) rfl jc_25 rfl (jj_keq ?_) jj_kno
        exact jj_vret (pc := 345) hX dX25_oneStep_345 hr ⟨Nat.le_refl _, Nat.le_refl _⟩ (⟨rfl, rfl, rfl, rfl, rfl⟩)
      · refine jj_aload_n (pc := 323) hX dX25_oneStep_323 rfl ?_
        refine jj_iload_n (pc := 324) hX dX25_oneStep_324 rfl ?_
        refine jj_iload (pc := 325) hX dX25_oneStep_325 rfl ?_
        rw [e10, e9, if_neg h162]
        unfold m_s3
        rw [if_neg h320]
        refine jj_callV (pc := 327) hX (w_fails X.1 (m_s2 t 1 σ) t _ ht) dX25_oneStep_327 (lw_V q1677 q1679 qs34 q78 q1680) rfl ⟨by decide +kernel, by decide +kernel, by show _ = some (2 : Nat); decide +kernel⟩ ⟨Nat.le_of_ble_eq_true rfl, Nat.le_of_ble_eq_true rfl, Nat.le_of_ble_eq_true rfl, Nat.le_of_ble_eq_true rfl, Nat.le_of_ble_eq_true rfl⟩ (fun q => by cases q) rfl jc_25 rfl (jj_keq ?_) jj_kno
        exact jj_vret (pc := 330) hX dX25_oneStep_330 hr ⟨Nat.le_refl _, Nat.le_refl _⟩ (⟨rfl, rfl, rfl, rfl, rfl⟩)
  · refine jj_aload_n (pc := 108) hX dX25_oneStep_108 rfl ?_
    refine jj_iload_n (pc := 109) hX dX25_oneStep_109 rfl ?_
    refine jj_bipush (pc := 110) hX (v := 8) dX25_oneStep_110 (by decide) ?_
    have e10 : (m_s5 t 17 a σ) = m_fails t 8 σ := by unfold m_s5; rw [htk]; exact if_neg h105
    rw [e10]
    refine jj_callV (pc := 112) hX (w_fails X.1 σ t _ ht) dX25_oneStep_112 (lw_V q1677 q1679 qs34 q78 q1680) rfl ⟨by decide +kernel, by decide +kernel, by show _ = some (2 : Nat); decide +kernel⟩ ⟨Nat.le_of_ble_eq_true rfl, Nat.le_of_ble_eq_true rfl, Nat.le_of_ble_eq_true rfl, Nat.le_of_ble_eq_true rfl, Nat.le_of_ble_eq_true rfl⟩ (fun q => by cases q) rfl jc_25 rfl (jj_keq ?_) jj_kno
    exact jj_vret (pc := 115) hX dX25_oneStep_115 hr ⟨Nat.le_refl _, Nat.le_refl _⟩ (⟨rfl, rfl, rfl, rfl, rfl⟩)

theorem w_os_20 {X : jj_X} (hX : jj_ok X cX25_oneStep "BranchCellsModel" 15 5 141 0 0) (hr : jj_Ret X none) (σ : jm) (t : Nat) (a : Int32) (ht : t < 85) (hp : jb (σ.1 32 t) 12) (hD : ∀ x xh y, m_ok1 t 20 x xh y σ → m_fault t 20 a x y (m_s2 t 1 σ) ≤ 0 → jm_M X.1 yX25_does cX25_does 10 none 4 112 [jI (nI t), jI 20, jI a, jL x, jI xh, jL y] (m_s2 t 1 σ) (m_does t 20 a x xh y (m_s2 t 1 σ)) none) : jj_J X (jj_End X (jj_eq none jm_T (m_s5 t 20 a σ).1 (m_s5 t 20 a σ).2 jm_R) jj_no 0 0) 0 0 91 [(0, jR (some 0)), (1, jI (nI t)), (3, jI 20), (4, jI a)] [] jm_T σ.1 σ.2 jm_R := by
  have e9 : m_s4 t 20 a σ = if σ.1 31 (12 * t + nv (σ.1 32 t) - 1) = 0 then (m_s3 t 20 a 1 (σ.2 30 (12 * t + nv (σ.1 32 t) - 1)) 0 0 σ) else (m_s3 t 20 a 1 (σ.2 30 (12 * t + nv (σ.1 32 t) - 1)) 1 0 σ) := rfl
  have htk : m_tk 20 = 1 := rfl
  have hp2 := hp.2
  refine jj_iload_n (pc := 91) hX dX25_oneStep_91 rfl ?_
  refine jj_callS (pc := 92) hX (w_taken X.1 20 (by decide) _ _ _ _) dX25_oneStep_92 (lw_S q1681 q1682 q78 q1683) ⟨by decide +kernel, by decide +kernel, by show _ = some (1 : Nat); decide +kernel⟩ ⟨Nat.le_of_ble_eq_true rfl, Nat.le_of_ble_eq_true rfl, Nat.le_of_ble_eq_true rfl, Nat.le_of_ble_eq_true rfl, Nat.le_of_ble_eq_true rfl⟩ (fun q => by cases q) rfl (jj_keq ?_) jj_kno
  refine jj_top 1 (by rw [htk]; rfl) ?_
  refine jj_istore (pc := 95) hX dX25_oneStep_95 (by decide) ?_
  refine jj_aload_n (pc := 97) hX dX25_oneStep_97 rfl ?_
  refine jj_getR (pc := 98) hX (x := some 32) fl_X25_93_25 dX25_oneStep_98 rfl rfl rfl ?_
  refine jj_iload_n (pc := 101) hX dX25_oneStep_101 rfl ?_
  refine jj_iald (pc := 102) hX t dX25_oneStep_102 rfl rfl rfl ⟨by omega, by omega⟩ ?_
  refine jj_iload (pc := 103) hX dX25_oneStep_103 rfl ?_
  refine jj_icmp_ge (pc := 105) hX 116 dX25_oneStep_105 rfl (fun h105 => ?_) (fun h105 => ?_)
  · have e10 : (m_s5 t 20 a σ) = m_s4 t 20 a σ := by unfold m_s5; rw [htk]; exact if_pos h105
    have h9 := jb_ge hp (c := 1) (m := 1) rfl (by decide) (by decide) h105
    refine jj_bipush (pc := 116) hX (v := 12) dX25_oneStep_116 (by decide) ?_
    refine jj_iload_n (pc := 118) hX dX25_oneStep_118 rfl ?_
    refine jj_imul (pc := 119) hX dX25_oneStep_119 ?_
    refine jj_aload_n (pc := 120) hX dX25_oneStep_120 rfl ?_
    refine jj_getR (pc := 121) hX (x := some 32) fl_X25_93_25 dX25_oneStep_121 rfl rfl rfl ?_
    refine jj_iload_n (pc := 124) hX dX25_oneStep_124 rfl ?_
    refine jj_iald (pc := 125) hX t dX25_oneStep_125 rfl rfl rfl ⟨by omega, by omega⟩ ?_
    refine jj_iadd (pc := 126) hX dX25_oneStep_126 ?_
    refine jj_iload (pc := 127) hX dX25_oneStep_127 rfl ?_
    refine jj_isub (pc := 129) hX dX25_oneStep_129 ?_
    refine jj_istore (pc := 130) hX dX25_oneStep_130 (by decide) ?_
    refine jj_iload (pc := 132) hX dX25_oneStep_132 rfl ?_
    refine jj_if_le (pc := 134) hX 147 dX25_oneStep_134 rfl (fun q => absurd q (by decide)) (fun _ => ?_)
    refine jj_aload_n (pc := 137) hX dX25_oneStep_137 rfl ?_
    refine jj_getR (pc := 138) hX (x := some 30) fl_X25_87_25 dX25_oneStep_138 rfl rfl rfl ?_
    refine jj_iload (pc := 141) hX dX25_oneStep_141 rfl ?_
    refine jj_lald (pc := 143) hX (((12 * t) + nv (σ.1 32 t)) - 1) dX25_oneStep_143 rfl rfl (ix_sub (ix_add (ix_mul rfl rfl) hp.1) rfl (by omega)) ⟨by omega, by omega⟩ ?_
    refine jj_goto (pc := 144) hX 148 dX25_oneStep_144 rfl ?_
    refine jj_lstore (pc := 148) hX dX25_oneStep_148 (by decide) ?_
    refine jj_iload (pc := 150) hX dX25_oneStep_150 rfl ?_
    refine jj_if_le (pc := 152) hX 169 dX25_oneStep_152 rfl (fun q => absurd q (by decide)) (fun _ => ?_)
    refine jj_aload_n (pc := 155) hX dX25_oneStep_155 rfl ?_
    refine jj_getR (pc := 156) hX (x := some 31) fl_X25_90_25 dX25_oneStep_156 rfl rfl rfl ?_
    refine jj_iload (pc := 159) hX dX25_oneStep_159 rfl ?_
    refine jj_zald (pc := 161) hX (((12 * t) + nv (σ.1 32 t)) - 1) dX25_oneStep_161 rfl rfl (ix_sub (ix_add (ix_mul rfl rfl) hp.1) rfl (by omega)) ⟨by omega, by omega⟩ ?_
    refine jj_if_eq (pc := 162) hX 169 dX25_oneStep_162 rfl (fun h162 => ?_) (fun h162 => ?_)
    · refine jj_iconst (pc := 169) hX (v := 0) dX25_oneStep_169 (by decide) ?_
      refine jj_istore (pc := 170) hX dX25_oneStep_170 (by decide) ?_
      refine jj_iload (pc := 172) hX dX25_oneStep_172 rfl ?_
      refine jj_iconst (pc := 174) hX (v := 1) dX25_oneStep_174 (by decide) ?_
      refine jj_icmp_le (pc := 175) hX 190 dX25_oneStep_175 rfl (fun _ => ?_) (fun q => absurd (by decide) q)
      refine jj_lconst (pc := 190) hX (v := 0) dX25_oneStep_190 (by decide) ?_
      refine jj_lstore (pc := 191) hX dX25_oneStep_191 (by decide) ?_
      refine jj_iload (pc := 193) hX dX25_oneStep_193 rfl ?_
      refine jj_iconst (pc := 195) hX (v := 1) dX25_oneStep_195 (by decide) ?_
      refine jj_icmp_le (pc := 196) hX 215 dX25_oneStep_196 rfl (fun _ => ?_) (fun q => absurd (by decide) q)
      refine jj_iconst (pc := 215) hX (v := 0) dX25_oneStep_215 (by decide) ?_
      refine jj_istore (pc := 216) hX dX25_oneStep_216 (by decide) ?_
      refine jj_aload_n (pc := 218) hX dX25_oneStep_218 rfl ?_
      refine jj_getR (pc := 219) hX (x := some 32) fl_X25_93_25 dX25_oneStep_219 rfl rfl rfl ?_
      refine jj_iload_n (pc := 222) hX dX25_oneStep_222 rfl ?_
      refine jj_dup2 (pc := 223) hX dX25_oneStep_223 rfl rfl ?_
      refine jj_iald (pc := 224) hX t dX25_oneStep_224 rfl rfl rfl ⟨by omega, by omega⟩ ?_
      refine jj_iload (pc := 225) hX dX25_oneStep_225 rfl ?_
      refine jj_isub (pc := 227) hX dX25_oneStep_227 ?_
      refine jj_iast (pc := 228) hX t dX25_oneStep_228 rfl rfl ⟨by omega, by omega⟩ ?_
      refine jj_mem (m_s2 t 1 σ) rfl rfl ?_
      refine jj_iload_n (pc := 229) hX dX25_oneStep_229 rfl ?_
      refine jj_bipush (pc := 230) hX (v := 15) dX25_oneStep_230 (by decide) ?_
      refine jj_icmp_eq (pc := 232) hX 253 dX25_oneStep_232 rfl (fun q => absurd q (by decide)) (fun _ => ?_)
      refine jj_iload_n (pc := 235) hX dX25_oneStep_235 rfl ?_
      refine jj_bipush (pc := 236) hX (v := 16) dX25_oneStep_236 (by decide) ?_
      refine jj_icmp_eq (pc := 238) hX 253 dX25_oneStep_238 rfl (fun q => absurd q (by decide)) (fun _ => ?_)
      refine jj_iload_n (pc := 241) hX dX25_oneStep_241 rfl ?_
      refine jj_bipush (pc := 242) hX (v := 17) dX25_oneStep_242 (by decide) ?_
      refine jj_icmp_eq (pc := 244) hX 253 dX25_oneStep_244 rfl (fun q => absurd q (by decide)) (fun _ => ?_)
      refine jj_iload_n (pc := 247) hX dX25_oneStep_247 rfl ?_
      refine jj_bipush (pc := 248) hX (v := 20) dX25_oneStep_248 (by decide) ?_
      refine jj_icmp_ne (pc := 250) hX 257 dX25_oneStep_250 rfl (fun q => absurd (by decide) q) (fun _ => ?_)
      refine jj_iconst (pc := 253) hX (v := 1) dX25_oneStep_253 (by decide) ?_
      refine jj_goto (pc := 254) hX 258 dX25_oneStep_254 rfl ?_
      refine jj_istore (pc := 258) hX dX25_oneStep_258 (by decide) ?_
      refine jj_iload (pc := 260) hX dX25_oneStep_260 rfl ?_
      refine jj_iconst (pc := 262) hX (v := 1) dX25_oneStep_262 (by decide) ?_
      refine jj_icmp_le (pc := 263) hX 271 dX25_oneStep_263 rfl (fun _ => ?_) (fun q => absurd (by decide) q)
      refine jj_iload (pc := 271) hX dX25_oneStep_271 rfl ?_
      refine jj_if_le (pc := 273) hX 304 dX25_oneStep_273 rfl (fun q => absurd q (by decide)) (fun _ => ?_)
      refine jj_iload (pc := 276) hX dX25_oneStep_276 rfl ?_
      refine jj_if_ne (pc := 278) hX 304 dX25_oneStep_278 rfl (fun _ => ?_) (fun q => absurd q (by decide))
      refine jj_aload_n (pc := 304) hX dX25_oneStep_304 rfl ?_
      refine jj_iload_n (pc := 305) hX dX25_oneStep_305 rfl ?_
      refine jj_iload_n (pc := 306) hX dX25_oneStep_306 rfl ?_
      refine jj_iload (pc := 307) hX dX25_oneStep_307 rfl ?_
      refine jj_lload (pc := 309) hX dX25_oneStep_309 rfl ?_
      refine jj_lload (pc := 311) hX dX25_oneStep_311 rfl ?_
      refine jj_callV (pc := 313) hX (w_faultOf X.1 (m_s2 t 1 σ) t 20 _ _ _ ht (by decide)) dX25_oneStep_313 (lw_V q1684 q1686 qs35 q78 q1687) rfl ⟨by decide +kernel, by decide +kernel, by show _ = some (5 : Nat); decide +kernel⟩ ⟨Nat.le_of_ble_eq_true rfl, Nat.le_of_ble_eq_true rfl, Nat.le_of_ble_eq_true rfl, Nat.le_of_ble_eq_true rfl, Nat.le_of_ble_eq_true rfl⟩ (fun q => by cases q) rfl jc_25 rfl (jj_keq ?_) jj_kno
      refine jj_istore (pc := 316) hX dX25_oneStep_316 (by decide) ?_
      refine jj_iload (pc := 318) hX dX25_oneStep_318 rfl ?_
      refine jj_if_le (pc := 320) hX 331 dX25_oneStep_320 rfl (fun h320 => ?_) (fun h320 => ?_)
      · refine jj_aload_n (pc := 331) hX dX25_oneStep_331 rfl ?_
        refine jj_iload_n (pc := 332) hX dX25_oneStep_332 rfl ?_
        refine jj_iload_n (pc := 333) hX dX25_oneStep_333 rfl ?_
        refine jj_iload (pc := 334) hX dX25_oneStep_334 rfl ?_
        refine jj_lload (pc := 336) hX dX25_oneStep_336 rfl ?_
        refine jj_iload (pc := 338) hX dX25_oneStep_338 rfl ?_
        refine jj_lload (pc := 340) hX dX25_oneStep_340 rfl ?_
        rw [e10, e9, if_pos h162]
        unfold m_s3
        rw [if_pos h320]
        refine jj_callV (pc := 342) hX (hD _ _ _ ⟨rfl, rfl, h9, Or.inl ⟨rfl, h162, by decide⟩⟩ h320) dX25_oneStep_342 (lw_V q1689 q1691 qs36 q78 q1692) rfl ⟨by decide +kernel, by decide +kernel, by show _ = some (6 : Nat); decide +kernel⟩ ⟨Nat.le_of_ble_eq_true rfl, Nat.le_of_ble_eq_true rfl, Nat.le_of_ble_eq_true rfl, Nat.le_of_ble_eq_true rfl, Nat.le_of_ble_eq_true rfl⟩ (fun q => by cases q) rfl jc_25 rfl (jj_keq ?_) jj_kno
        exact jj_vret (pc := 345) hX dX25_oneStep_345 hr ⟨Nat.le_refl _, Nat.le_refl _⟩ (⟨rfl, rfl, rfl, rfl, rfl⟩)
      · refine jj_aload_n (pc := 323) hX dX25_oneStep_323 rfl ?_
        refine jj_iload_n (pc := 324) hX dX25_oneStep_324 rfl ?_
        refine jj_iload (pc := 325) hX dX25_oneStep_325 rfl ?_
        rw [e10, e9, if_pos h162]
        unfold m_s3
        rw [if_neg h320]
        refine jj_callV (pc := 327) hX (w_fails X.1 (m_s2 t 1 σ) t _ ht) dX25_oneStep_327 (lw_V q1677 q1679 qs34 q78 q1680) rfl ⟨by decide +kernel, by decide +kernel, by show _ = some (2 : Nat); decide +kernel⟩ ⟨Nat.le_of_ble_eq_true rfl, Nat.le_of_ble_eq_true rfl, Nat.le_of_ble_eq_true rfl, Nat.le_of_ble_eq_true rfl, Nat.le_of_ble_eq_true rfl⟩ (fun q => by cases q) rfl jc_25 rfl (jj_keq ?_) jj_kno
        exact jj_vret (pc := 330) hX dX25_oneStep_330 hr ⟨Nat.le_refl _, Nat.le_refl _⟩ (⟨rfl, rfl, rfl, rfl, rfl⟩)
    · refine jj_iconst (pc := 165) hX (v := 1) dX25_oneStep_165 (by decide) ?_
      refine jj_goto (pc := 166) hX 170 dX25_oneStep_166 rfl ?_
      refine jj_istore (pc := 170) hX dX25_oneStep_170 (by decide) ?_
      refine jj_iload (pc := 172) hX dX25_oneStep_172 rfl ?_
      refine jj_iconst (pc := 174) hX (v := 1) dX25_oneStep_174 (by decide) ?_
      refine jj_icmp_le (pc := 175) hX 190 dX25_oneStep_175 rfl (fun _ => ?_) (fun q => absurd (by decide) q)
      refine jj_lconst (pc := 190) hX (v := 0) dX25_oneStep_190 (by decide) ?_
      refine jj_lstore (pc := 191) hX dX25_oneStep_191 (by decide) ?_
      refine jj_iload (pc := 193) hX dX25_oneStep_193 rfl ?_
      refine jj_iconst (pc := 195) hX (v := 1) dX25_oneStep_195 (by decide) ?_
      refine jj_icmp_le (pc := 196) hX 215 dX25_oneStep_196 rfl (fun _ => ?_) (fun q => absurd (by decide) q)
      refine jj_iconst (pc := 215) hX (v := 0) dX25_oneStep_215 (by decide) ?_
      refine jj_istore (pc := 216) hX dX25_oneStep_216 (by decide) ?_
      refine jj_aload_n (pc := 218) hX dX25_oneStep_218 rfl ?_
      refine jj_getR (pc := 219) hX (x := some 32) fl_X25_93_25 dX25_oneStep_219 rfl rfl rfl ?_
      refine jj_iload_n (pc := 222) hX dX25_oneStep_222 rfl ?_
      refine jj_dup2 (pc := 223) hX dX25_oneStep_223 rfl rfl ?_
      refine jj_iald (pc := 224) hX t dX25_oneStep_224 rfl rfl rfl ⟨by omega, by omega⟩ ?_
      refine jj_iload (pc := 225) hX dX25_oneStep_225 rfl ?_
      refine jj_isub (pc := 227) hX dX25_oneStep_227 ?_
      refine jj_iast (pc := 228) hX t dX25_oneStep_228 rfl rfl ⟨by omega, by omega⟩ ?_
      refine jj_mem (m_s2 t 1 σ) rfl rfl ?_
      refine jj_iload_n (pc := 229) hX dX25_oneStep_229 rfl ?_
      refine jj_bipush (pc := 230) hX (v := 15) dX25_oneStep_230 (by decide) ?_
      refine jj_icmp_eq (pc := 232) hX 253 dX25_oneStep_232 rfl (fun q => absurd q (by decide)) (fun _ => ?_)
      refine jj_iload_n (pc := 235) hX dX25_oneStep_235 rfl ?_
      refine jj_bipush (pc := 236) hX (v := 16) dX25_oneStep_236 (by decide) ?_
      refine jj_icmp_eq (pc := 238) hX 253 dX25_oneStep_238 rfl (fun q => absurd q (by decide)) (fun _ => ?_)
      refine jj_iload_n (pc := 241) hX dX25_oneStep_241 rfl ?_
      refine jj_bipush (pc := 242) hX (v := 17) dX25_oneStep_242 (by decide) ?_
      refine jj_icmp_eq (pc := 244) hX 253 dX25_oneStep_244 rfl (fun q => absurd q (by decide)) (fun _ => ?_)
      refine jj_iload_n (pc := 247) hX dX25_oneStep_247 rfl ?_
      refine jj_bipush (pc := 248) hX (v := 20) dX25_oneStep_248 (by decide) ?_
      refine jj_icmp_ne (pc := 250) hX 257 dX25_oneStep_250 rfl (fun q => absurd (by decide) q) (fun _ => ?_)
      refine jj_iconst (pc := 253) hX (v := 1) dX25_oneStep_253 (by decide) ?_
      refine jj_goto (pc := 254) hX 258 dX25_oneStep_254 rfl ?_
      refine jj_istore (pc := 258) hX dX25_oneStep_258 (by decide) ?_
      refine jj_iload (pc := 260) hX dX25_oneStep_260 rfl ?_
      refine jj_iconst (pc := 262) hX (v := 1) dX25_oneStep_262 (by decide) ?_
      refine jj_icmp_le (pc := 263) hX 271 dX25_oneStep_263 rfl (fun _ => ?_) (fun q => absurd (by decide) q)
      refine jj_iload (pc := 271) hX dX25_oneStep_271 rfl ?_
      refine jj_if_le (pc := 273) hX 304 dX25_oneStep_273 rfl (fun q => absurd q (by decide)) (fun _ => ?_)
      refine jj_iload (pc := 276) hX dX25_oneStep_276 rfl ?_
      refine jj_if_ne (pc := 278) hX 304 dX25_oneStep_278 rfl (fun _ => ?_) (fun q => absurd q (by decide))
      refine jj_aload_n (pc := 304) hX dX25_oneStep_304 rfl ?_
      refine jj_iload_n (pc := 305) hX dX25_oneStep_305 rfl ?_
      refine jj_iload_n (pc := 306) hX dX25_oneStep_306 rfl ?_
      refine jj_iload (pc := 307) hX dX25_oneStep_307 rfl ?_
      refine jj_lload (pc := 309) hX dX25_oneStep_309 rfl ?_
      refine jj_lload (pc := 311) hX dX25_oneStep_311 rfl ?_
      refine jj_callV (pc := 313) hX (w_faultOf X.1 (m_s2 t 1 σ) t 20 _ _ _ ht (by decide)) dX25_oneStep_313 (lw_V q1684 q1686 qs35 q78 q1687) rfl ⟨by decide +kernel, by decide +kernel, by show _ = some (5 : Nat); decide +kernel⟩ ⟨Nat.le_of_ble_eq_true rfl, Nat.le_of_ble_eq_true rfl, Nat.le_of_ble_eq_true rfl, Nat.le_of_ble_eq_true rfl, Nat.le_of_ble_eq_true rfl⟩ (fun q => by cases q) rfl jc_25 rfl (jj_keq ?_) jj_kno
      refine jj_istore (pc := 316) hX dX25_oneStep_316 (by decide) ?_
      refine jj_iload (pc := 318) hX dX25_oneStep_318 rfl ?_
      refine jj_if_le (pc := 320) hX 331 dX25_oneStep_320 rfl (fun h320 => ?_) (fun h320 => ?_)
      · refine jj_aload_n (pc := 331) hX dX25_oneStep_331 rfl ?_
        refine jj_iload_n (pc := 332) hX dX25_oneStep_332 rfl ?_
        refine jj_iload_n (pc := 333) hX dX25_oneStep_333 rfl ?_
        refine jj_iload (pc := 334) hX dX25_oneStep_334 rfl ?_
        refine jj_lload (pc := 336) hX dX25_oneStep_336 rfl ?_
        refine jj_iload (pc := 338) hX dX25_oneStep_338 rfl ?_
        refine jj_lload (pc := 340) hX dX25_oneStep_340 rfl ?_
        rw [e10, e9, if_neg h162]
        unfold m_s3
        rw [if_pos h320]
        refine jj_callV (pc := 342) hX (hD _ _ _ ⟨rfl, rfl, h9, Or.inr ⟨rfl, h162, by decide⟩⟩ h320) dX25_oneStep_342 (lw_V q1689 q1691 qs36 q78 q1692) rfl ⟨by decide +kernel, by decide +kernel, by show _ = some (6 : Nat); decide +kernel⟩ ⟨Nat.le_of_ble_eq_true rfl, Nat.le_of_ble_eq_true rfl, Nat.le_of_ble_eq_true rfl, Nat.le_of_ble_eq_true rfl, Nat.le_of_ble_eq_true rfl⟩ (fun q => by cases q) rfl jc_25 rfl (jj_keq ?_) jj_kno
        exact jj_vret (pc := 345) hX dX25_oneStep_345 hr ⟨Nat.le_refl _, Nat.le_refl _⟩ (⟨rfl, rfl, rfl, rfl, rfl⟩)
      · refine jj_aload_n (pc := 323) hX dX25_oneStep_323 rfl ?_
        refine jj_iload_n (pc := 324) hX dX25_oneStep_324 rfl ?_
        refine jj_iload (pc := 325) hX dX25_oneStep_325 rfl ?_
        rw [e10, e9, if_neg h162]
        unfold m_s3
        rw [if_neg h320]
        refine jj_callV (pc := 327) hX (w_fails X.1 (m_s2 t 1 σ) t _ ht) dX25_oneStep_327 (lw_V q1677 q1679 qs34 q78 q1680) rfl ⟨by decide +kernel, by decide +kernel, by show _ = some (2 : Nat); decide +kernel⟩ ⟨Nat.le_of_ble_eq_true rfl, Nat.le_of_ble_eq_true rfl, Nat.le_of_ble_eq_true rfl, Nat.le_of_ble_eq_true rfl, Nat.le_of_ble_eq_true rfl⟩ (fun q => by cases q) rfl jc_25 rfl (jj_keq ?_) jj_kno
        exact jj_vret (pc := 330) hX dX25_oneStep_330 hr ⟨Nat.le_refl _, Nat.le_refl _⟩ (⟨rfl, rfl, rfl, rfl, rfl⟩)
  · refine jj_aload_n (pc := 108) hX dX25_oneStep_108 rfl ?_
    refine jj_iload_n (pc := 109) hX dX25_oneStep_109 rfl ?_
    refine jj_bipush (pc := 110) hX (v := 8) dX25_oneStep_110 (by decide) ?_
    have e10 : (m_s5 t 20 a σ) = m_fails t 8 σ := by unfold m_s5; rw [htk]; exact if_neg h105
    rw [e10]
    refine jj_callV (pc := 112) hX (w_fails X.1 σ t _ ht) dX25_oneStep_112 (lw_V q1677 q1679 qs34 q78 q1680) rfl ⟨by decide +kernel, by decide +kernel, by show _ = some (2 : Nat); decide +kernel⟩ ⟨Nat.le_of_ble_eq_true rfl, Nat.le_of_ble_eq_true rfl, Nat.le_of_ble_eq_true rfl, Nat.le_of_ble_eq_true rfl, Nat.le_of_ble_eq_true rfl⟩ (fun q => by cases q) rfl jc_25 rfl (jj_keq ?_) jj_kno
    exact jj_vret (pc := 115) hX dX25_oneStep_115 hr ⟨Nat.le_refl _, Nat.le_refl _⟩ (⟨rfl, rfl, rfl, rfl, rfl⟩)

theorem w_os_18 {X : jj_X} (hX : jj_ok X cX25_oneStep "BranchCellsModel" 15 5 141 0 0) (hr : jj_Ret X none) (σ : jm) (t : Nat) (a : Int32) (ht : t < 85) (hp : jb (σ.1 32 t) 12) (hD : ∀ x xh y, m_ok1 t 18 x xh y σ → m_fault t 18 a x y (m_s2 t 1 σ) ≤ 0 → jm_M X.1 yX25_does cX25_does 10 none 4 112 [jI (nI t), jI 18, jI a, jL x, jI xh, jL y] (m_s2 t 1 σ) (m_does t 18 a x xh y (m_s2 t 1 σ)) none) : jj_J X (jj_End X (jj_eq none jm_T (m_s5 t 18 a σ).1 (m_s5 t 18 a σ).2 jm_R) jj_no 0 0) 0 0 91 [(0, jR (some 0)), (1, jI (nI t)), (3, jI 18), (4, jI a)] [] jm_T σ.1 σ.2 jm_R := by
  have e9 : m_s4 t 18 a σ = if σ.1 31 (12 * t + nv (σ.1 32 t) - 1) = 0 then (m_fails t 2 (m_s2 t 1 σ)) else (m_s3 t 18 a 1 (σ.2 30 (12 * t + nv (σ.1 32 t) - 1)) 1 0 σ) := rfl
  have htk : m_tk 18 = 1 := rfl
  have hp2 := hp.2
  refine jj_iload_n (pc := 91) hX dX25_oneStep_91 rfl ?_
  refine jj_callS (pc := 92) hX (w_taken X.1 18 (by decide) _ _ _ _) dX25_oneStep_92 (lw_S q1681 q1682 q78 q1683) ⟨by decide +kernel, by decide +kernel, by show _ = some (1 : Nat); decide +kernel⟩ ⟨Nat.le_of_ble_eq_true rfl, Nat.le_of_ble_eq_true rfl, Nat.le_of_ble_eq_true rfl, Nat.le_of_ble_eq_true rfl, Nat.le_of_ble_eq_true rfl⟩ (fun q => by cases q) rfl (jj_keq ?_) jj_kno
  refine jj_top 1 (by rw [htk]; rfl) ?_
  refine jj_istore (pc := 95) hX dX25_oneStep_95 (by decide) ?_
  refine jj_aload_n (pc := 97) hX dX25_oneStep_97 rfl ?_
  refine jj_getR (pc := 98) hX (x := some 32) fl_X25_93_25 dX25_oneStep_98 rfl rfl rfl ?_
  refine jj_iload_n (pc := 101) hX dX25_oneStep_101 rfl ?_
  refine jj_iald (pc := 102) hX t dX25_oneStep_102 rfl rfl rfl ⟨by omega, by omega⟩ ?_
  refine jj_iload (pc := 103) hX dX25_oneStep_103 rfl ?_
  refine jj_icmp_ge (pc := 105) hX 116 dX25_oneStep_105 rfl (fun h105 => ?_) (fun h105 => ?_)
  · have e10 : (m_s5 t 18 a σ) = m_s4 t 18 a σ := by unfold m_s5; rw [htk]; exact if_pos h105
    have h9 := jb_ge hp (c := 1) (m := 1) rfl (by decide) (by decide) h105
    refine jj_bipush (pc := 116) hX (v := 12) dX25_oneStep_116 (by decide) ?_
    refine jj_iload_n (pc := 118) hX dX25_oneStep_118 rfl ?_
    refine jj_imul (pc := 119) hX dX25_oneStep_119 ?_
    refine jj_aload_n (pc := 120) hX dX25_oneStep_120 rfl ?_
    refine jj_getR (pc := 121) hX (x := some 32) fl_X25_93_25 dX25_oneStep_121 rfl rfl rfl ?_
    refine jj_iload_n (pc := 124) hX dX25_oneStep_124 rfl ?_
    refine jj_iald (pc := 125) hX t dX25_oneStep_125 rfl rfl rfl ⟨by omega, by omega⟩ ?_
    refine jj_iadd (pc := 126) hX dX25_oneStep_126 ?_
    refine jj_iload (pc := 127) hX dX25_oneStep_127 rfl ?_
    refine jj_isub (pc := 129) hX dX25_oneStep_129 ?_
    refine jj_istore (pc := 130) hX dX25_oneStep_130 (by decide) ?_
    refine jj_iload (pc := 132) hX dX25_oneStep_132 rfl ?_
    refine jj_if_le (pc := 134) hX 147 dX25_oneStep_134 rfl (fun q => absurd q (by decide)) (fun _ => ?_)
    refine jj_aload_n (pc := 137) hX dX25_oneStep_137 rfl ?_
    refine jj_getR (pc := 138) hX (x := some 30) fl_X25_87_25 dX25_oneStep_138 rfl rfl rfl ?_
    refine jj_iload (pc := 141) hX dX25_oneStep_141 rfl ?_
    refine jj_lald (pc := 143) hX (((12 * t) + nv (σ.1 32 t)) - 1) dX25_oneStep_143 rfl rfl (ix_sub (ix_add (ix_mul rfl rfl) hp.1) rfl (by omega)) ⟨by omega, by omega⟩ ?_
    refine jj_goto (pc := 144) hX 148 dX25_oneStep_144 rfl ?_
    refine jj_lstore (pc := 148) hX dX25_oneStep_148 (by decide) ?_
    refine jj_iload (pc := 150) hX dX25_oneStep_150 rfl ?_
    refine jj_if_le (pc := 152) hX 169 dX25_oneStep_152 rfl (fun q => absurd q (by decide)) (fun _ => ?_)
    refine jj_aload_n (pc := 155) hX dX25_oneStep_155 rfl ?_
    refine jj_getR (pc := 156) hX (x := some 31) fl_X25_90_25 dX25_oneStep_156 rfl rfl rfl ?_
    refine jj_iload (pc := 159) hX dX25_oneStep_159 rfl ?_
    refine jj_zald (pc := 161) hX (((12 * t) + nv (σ.1 32 t)) - 1) dX25_oneStep_161 rfl rfl (ix_sub (ix_add (ix_mul rfl rfl) hp.1) rfl (by omega)) ⟨by omega, by omega⟩ ?_
    refine jj_if_eq (pc := 162) hX 169 dX25_oneStep_162 rfl (fun h162 => ?_) (fun h162 => ?_)
    · refine jj_iconst (pc := 169) hX (v := 0) dX25_oneStep_169 (by decide) ?_
      refine jj_istore (pc := 170) hX dX25_oneStep_170 (by decide) ?_
      refine jj_iload (pc := 172) hX dX25_oneStep_172 rfl ?_
      refine jj_iconst (pc := 174) hX (v := 1) dX25_oneStep_174 (by decide) ?_
      refine jj_icmp_le (pc := 175) hX 190 dX25_oneStep_175 rfl (fun _ => ?_) (fun q => absurd (by decide) q)
      refine jj_lconst (pc := 190) hX (v := 0) dX25_oneStep_190 (by decide) ?_
      refine jj_lstore (pc := 191) hX dX25_oneStep_191 (by decide) ?_
      refine jj_iload (pc := 193) hX dX25_oneStep_193 rfl ?_
      refine jj_iconst (pc := 195) hX (v := 1) dX25_oneStep_195 (by decide) ?_
      refine jj_icmp_le (pc := 196) hX 215 dX25_oneStep_196 rfl (fun _ => ?_) (fun q => absurd (by decide) q)
      refine jj_iconst (pc := 215) hX (v := 0) dX25_oneStep_215 (by decide) ?_
      refine jj_istore (pc := 216) hX dX25_oneStep_216 (by decide) ?_
      refine jj_aload_n (pc := 218) hX dX25_oneStep_218 rfl ?_
      refine jj_getR (pc := 219) hX (x := some 32) fl_X25_93_25 dX25_oneStep_219 rfl rfl rfl ?_
      refine jj_iload_n (pc := 222) hX dX25_oneStep_222 rfl ?_
      refine jj_dup2 (pc := 223) hX dX25_oneStep_223 rfl rfl ?_
      refine jj_iald (pc := 224) hX t dX25_oneStep_224 rfl rfl rfl ⟨by omega, by omega⟩ ?_
      refine jj_iload (pc := 225) hX dX25_oneStep_225 rfl ?_
      refine jj_isub (pc := 227) hX dX25_oneStep_227 ?_
      refine jj_iast (pc := 228) hX t dX25_oneStep_228 rfl rfl ⟨by omega, by omega⟩ ?_
      refine jj_mem (m_s2 t 1 σ) rfl rfl ?_
      refine jj_iload_n (pc := 229) hX dX25_oneStep_229 rfl ?_
      refine jj_bipush (pc := 230) hX (v := 15) dX25_oneStep_230 (by decide) ?_
      refine jj_icmp_eq (pc := 232) hX 253 dX25_oneStep_232 rfl (fun q => absurd q (by decide)) (fun _ => ?_)
      refine jj_iload_n (pc := 235) hX dX25_oneStep_235 rfl ?_
      refine jj_bipush (pc := 236) hX (v := 16) dX25_oneStep_236 (by decide) ?_
      refine jj_icmp_eq (pc := 238) hX 253 dX25_oneStep_238 rfl (fun q => absurd q (by decide)) (fun _ => ?_)
      refine jj_iload_n (pc := 241) hX dX25_oneStep_241 rfl ?_
      refine jj_bipush (pc := 242) hX (v := 17) dX25_oneStep_242 (by decide) ?_
      refine jj_icmp_eq (pc := 244) hX 253 dX25_oneStep_244 rfl (fun q => absurd q (by decide)) (fun _ => ?_)
      refine jj_iload_n (pc := 247) hX dX25_oneStep_247 rfl ?_
      refine jj_bipush (pc := 248) hX (v := 20) dX25_oneStep_248 (by decide) ?_
      refine jj_icmp_ne (pc := 250) hX 257 dX25_oneStep_250 rfl (fun _ => ?_) (fun q => absurd q (by decide))
      refine jj_iconst (pc := 257) hX (v := 0) dX25_oneStep_257 (by decide) ?_
      refine jj_istore (pc := 258) hX dX25_oneStep_258 (by decide) ?_
      refine jj_iload (pc := 260) hX dX25_oneStep_260 rfl ?_
      refine jj_iconst (pc := 262) hX (v := 1) dX25_oneStep_262 (by decide) ?_
      refine jj_icmp_le (pc := 263) hX 271 dX25_oneStep_263 rfl (fun _ => ?_) (fun q => absurd (by decide) q)
      refine jj_iload (pc := 271) hX dX25_oneStep_271 rfl ?_
      refine jj_if_le (pc := 273) hX 304 dX25_oneStep_273 rfl (fun q => absurd q (by decide)) (fun _ => ?_)
      refine jj_iload (pc := 276) hX dX25_oneStep_276 rfl ?_
      refine jj_if_ne (pc := 278) hX 304 dX25_oneStep_278 rfl (fun q => absurd (by decide) q) (fun _ => ?_)
      refine jj_iload (pc := 281) hX dX25_oneStep_281 rfl ?_
      refine jj_iload_n (pc := 283) hX dX25_oneStep_283 rfl ?_
      refine jj_bipush (pc := 284) hX (v := 18) dX25_oneStep_284 (by decide) ?_
      refine jj_icmp_ne (pc := 286) hX 293 dX25_oneStep_286 rfl (fun q => absurd (by decide) q) (fun _ => ?_)
      refine jj_iconst (pc := 289) hX (v := 1) dX25_oneStep_289 (by decide) ?_
      refine jj_goto (pc := 290) hX 294 dX25_oneStep_290 rfl ?_
      refine jj_icmp_eq (pc := 294) hX 304 dX25_oneStep_294 rfl (fun q => absurd q (by decide)) (fun _ => ?_)
      refine jj_aload_n (pc := 297) hX dX25_oneStep_297 rfl ?_
      refine jj_iload_n (pc := 298) hX dX25_oneStep_298 rfl ?_
      refine jj_iconst (pc := 299) hX (v := 2) dX25_oneStep_299 (by decide) ?_
      rw [e10, e9, if_pos h162]
      refine jj_callV (pc := 300) hX (w_fails X.1 (m_s2 t 1 σ) t _ ht) dX25_oneStep_300 (lw_V q1677 q1679 qs34 q78 q1680) rfl ⟨by decide +kernel, by decide +kernel, by show _ = some (2 : Nat); decide +kernel⟩ ⟨Nat.le_of_ble_eq_true rfl, Nat.le_of_ble_eq_true rfl, Nat.le_of_ble_eq_true rfl, Nat.le_of_ble_eq_true rfl, Nat.le_of_ble_eq_true rfl⟩ (fun q => by cases q) rfl jc_25 rfl (jj_keq ?_) jj_kno
      exact jj_vret (pc := 303) hX dX25_oneStep_303 hr ⟨Nat.le_refl _, Nat.le_refl _⟩ (⟨rfl, rfl, rfl, rfl, rfl⟩)
    · refine jj_iconst (pc := 165) hX (v := 1) dX25_oneStep_165 (by decide) ?_
      refine jj_goto (pc := 166) hX 170 dX25_oneStep_166 rfl ?_
      refine jj_istore (pc := 170) hX dX25_oneStep_170 (by decide) ?_
      refine jj_iload (pc := 172) hX dX25_oneStep_172 rfl ?_
      refine jj_iconst (pc := 174) hX (v := 1) dX25_oneStep_174 (by decide) ?_
      refine jj_icmp_le (pc := 175) hX 190 dX25_oneStep_175 rfl (fun _ => ?_) (fun q => absurd (by decide) q)
      refine jj_lconst (pc := 190) hX (v := 0) dX25_oneStep_190 (by decide) ?_
      refine jj_lstore (pc := 191) hX dX25_oneStep_191 (by decide) ?_
      refine jj_iload (pc := 193) hX dX25_oneStep_193 rfl ?_
      refine jj_iconst (pc := 195) hX (v := 1) dX25_oneStep_195 (by decide) ?_
      refine jj_icmp_le (pc := 196) hX 215 dX25_oneStep_196 rfl (fun _ => ?_) (fun q => absurd (by decide) q)
      refine jj_iconst (pc := 215) hX (v := 0) dX25_oneStep_215 (by decide) ?_
      refine jj_istore (pc := 216) hX dX25_oneStep_216 (by decide) ?_
      refine jj_aload_n (pc := 218) hX dX25_oneStep_218 rfl ?_
      refine jj_getR (pc := 219) hX (x := some 32) fl_X25_93_25 dX25_oneStep_219 rfl rfl rfl ?_
      refine jj_iload_n (pc := 222) hX dX25_oneStep_222 rfl ?_
      refine jj_dup2 (pc := 223) hX dX25_oneStep_223 rfl rfl ?_
      refine jj_iald (pc := 224) hX t dX25_oneStep_224 rfl rfl rfl ⟨by omega, by omega⟩ ?_
      refine jj_iload (pc := 225) hX dX25_oneStep_225 rfl ?_
      refine jj_isub (pc := 227) hX dX25_oneStep_227 ?_
      refine jj_iast (pc := 228) hX t dX25_oneStep_228 rfl rfl ⟨by omega, by omega⟩ ?_
      refine jj_mem (m_s2 t 1 σ) rfl rfl ?_
      refine jj_iload_n (pc := 229) hX dX25_oneStep_229 rfl ?_
      refine jj_bipush (pc := 230) hX (v := 15) dX25_oneStep_230 (by decide) ?_
      refine jj_icmp_eq (pc := 232) hX 253 dX25_oneStep_232 rfl (fun q => absurd q (by decide)) (fun _ => ?_)
      refine jj_iload_n (pc := 235) hX dX25_oneStep_235 rfl ?_
      refine jj_bipush (pc := 236) hX (v := 16) dX25_oneStep_236 (by decide) ?_
      refine jj_icmp_eq (pc := 238) hX 253 dX25_oneStep_238 rfl (fun q => absurd q (by decide)) (fun _ => ?_)
      refine jj_iload_n (pc := 241) hX dX25_oneStep_241 rfl ?_
      refine jj_bipush (pc := 242) hX (v := 17) dX25_oneStep_242 (by decide) ?_
      refine jj_icmp_eq (pc := 244) hX 253 dX25_oneStep_244 rfl (fun q => absurd q (by decide)) (fun _ => ?_)
      refine jj_iload_n (pc := 247) hX dX25_oneStep_247 rfl ?_
      refine jj_bipush (pc := 248) hX (v := 20) dX25_oneStep_248 (by decide) ?_
      refine jj_icmp_ne (pc := 250) hX 257 dX25_oneStep_250 rfl (fun _ => ?_) (fun q => absurd q (by decide))
      refine jj_iconst (pc := 257) hX (v := 0) dX25_oneStep_257 (by decide) ?_
      refine jj_istore (pc := 258) hX dX25_oneStep_258 (by decide) ?_
      refine jj_iload (pc := 260) hX dX25_oneStep_260 rfl ?_
      refine jj_iconst (pc := 262) hX (v := 1) dX25_oneStep_262 (by decide) ?_
      refine jj_icmp_le (pc := 263) hX 271 dX25_oneStep_263 rfl (fun _ => ?_) (fun q => absurd (by decide) q)
      refine jj_iload (pc := 271) hX dX25_oneStep_271 rfl ?_
      refine jj_if_le (pc := 273) hX 304 dX25_oneStep_273 rfl (fun q => absurd q (by decide)) (fun _ => ?_)
      refine jj_iload (pc := 276) hX dX25_oneStep_276 rfl ?_
      refine jj_if_ne (pc := 278) hX 304 dX25_oneStep_278 rfl (fun q => absurd (by decide) q) (fun _ => ?_)
      refine jj_iload (pc := 281) hX dX25_oneStep_281 rfl ?_
      refine jj_iload_n (pc := 283) hX dX25_oneStep_283 rfl ?_
      refine jj_bipush (pc := 284) hX (v := 18) dX25_oneStep_284 (by decide) ?_
      refine jj_icmp_ne (pc := 286) hX 293 dX25_oneStep_286 rfl (fun q => absurd (by decide) q) (fun _ => ?_)
      refine jj_iconst (pc := 289) hX (v := 1) dX25_oneStep_289 (by decide) ?_
      refine jj_goto (pc := 290) hX 294 dX25_oneStep_290 rfl ?_
      refine jj_icmp_eq (pc := 294) hX 304 dX25_oneStep_294 rfl (fun _ => ?_) (fun q => absurd (by decide) q)
      refine jj_aload_n (pc := 304) hX dX25_oneStep_304 rfl ?_
      refine jj_iload_n (pc := 305) hX dX25_oneStep_305 rfl ?_
      refine jj_iload_n (pc := 306) hX dX25_oneStep_306 rfl ?_
      refine jj_iload (pc := 307) hX dX25_oneStep_307 rfl ?_
      refine jj_lload (pc := 309) hX dX25_oneStep_309 rfl ?_
      refine jj_lload (pc := 311) hX dX25_oneStep_311 rfl ?_
      refine jj_callV (pc := 313) hX (w_faultOf X.1 (m_s2 t 1 σ) t 18 _ _ _ ht (by decide)) dX25_oneStep_313 (lw_V q1684 q1686 qs35 q78 q1687) rfl ⟨by decide +kernel, by decide +kernel, by show _ = some (5 : Nat); decide +kernel⟩ ⟨Nat.le_of_ble_eq_true rfl, Nat.le_of_ble_eq_true rfl, Nat.le_of_ble_eq_true rfl, Nat.le_of_ble_eq_true rfl, Nat.le_of_ble_eq_true rfl⟩ (fun q => by cases q) rfl jc_25 rfl (jj_keq ?_) jj_kno
      refine jj_istore (pc := 316) hX dX25_oneStep_316 (by decide) ?_
      refine jj_iload (pc := 318) hX dX25_oneStep_318 rfl ?_
      refine jj_if_le (pc := 320) hX 331 dX25_oneStep_320 rfl (fun h320 => ?_) (fun h320 => ?_)
      · refine jj_aload_n (pc := 331) hX dX25_oneStep_331 rfl ?_
        refine jj_iload_n (pc := 332) hX dX25_oneStep_332 rfl ?_
        refine jj_iload_n (pc := 333) hX dX25_oneStep_333 rfl ?_
        refine jj_iload (pc := 334) hX dX25_oneStep_334 rfl ?_
        refine jj_lload (pc := 336) hX dX25_oneStep_336 rfl ?_
        refine jj_iload (pc := 338) hX dX25_oneStep_338 rfl ?_
        refine jj_lload (pc := 340) hX dX25_oneStep_340 rfl ?_
        rw [e10, e9, if_neg h162]
        unfold m_s3
        rw [if_pos h320]
        refine jj_callV (pc := 342) hX (hD _ _ _ ⟨rfl, rfl, h9, Or.inr ⟨rfl, h162, by decide⟩⟩ h320) dX25_oneStep_342 (lw_V q1689 q1691 qs36 q78 q1692) rfl ⟨by decide +kernel, by decide +kernel, by show _ = some (6 : Nat); decide +kernel⟩ ⟨Nat.le_of_ble_eq_true rfl, Nat.le_of_ble_eq_true rfl, Nat.le_of_ble_eq_true rfl, Nat.le_of_ble_eq_true rfl, Nat.le_of_ble_eq_true rfl⟩ (fun q => by cases q) rfl jc_25 rfl (jj_keq ?_) jj_kno
        exact jj_vret (pc := 345) hX dX25_oneStep_345 hr ⟨Nat.le_refl _, Nat.le_refl _⟩ (⟨rfl, rfl, rfl, rfl, rfl⟩)
      · refine jj_aload_n (pc := 323) hX dX25_oneStep_323 rfl ?_
        refine jj_iload_n (pc := 324) hX dX25_oneStep_324 rfl ?_
        refine jj_iload (pc := 325) hX dX25_oneStep_325 rfl ?_
        rw [e10, e9, if_neg h162]
        unfold m_s3
        rw [if_neg h320]
        refine jj_callV (pc := 327) hX (w_fails X.1 (m_s2 t 1 σ) t _ ht) dX25_oneStep_327 (lw_V q1677 q1679 qs34 q78 q1680) rfl ⟨by decide +kernel, by decide +kernel, by show _ = some (2 : Nat); decide +kernel⟩ ⟨Nat.le_of_ble_eq_true rfl, Nat.le_of_ble_eq_true rfl, Nat.le_of_ble_eq_true rfl, Nat.le_of_ble_eq_true rfl, Nat.le_of_ble_eq_true rfl⟩ (fun q => by cases q) rfl jc_25 rfl (jj_keq ?_) jj_kno
        exact jj_vret (pc := 330) hX dX25_oneStep_330 hr ⟨Nat.le_refl _, Nat.le_refl _⟩ (⟨rfl, rfl, rfl, rfl, rfl⟩)
  · refine jj_aload_n (pc := 108) hX dX25_oneStep_108 rfl ?_
    refine jj_iload_n (pc := 109) hX dX25_oneStep_109 rfl ?_
    refine jj_bipush (pc := 110) hX (v := 8) dX25_oneStep_110 (by decide) ?_
    have e10 : (m_s5 t 18 a σ) = m_fails t 8 σ := by unfold m_s5; rw [htk]; exact if_neg h105
    rw [e10]
    refine jj_callV (pc := 112) hX (w_fails X.1 σ t _ ht) dX25_oneStep_112 (lw_V q1677 q1679 qs34 q78 q1680) rfl ⟨by decide +kernel, by decide +kernel, by show _ = some (2 : Nat); decide +kernel⟩ ⟨Nat.le_of_ble_eq_true rfl, Nat.le_of_ble_eq_true rfl, Nat.le_of_ble_eq_true rfl, Nat.le_of_ble_eq_true rfl, Nat.le_of_ble_eq_true rfl⟩ (fun q => by cases q) rfl jc_25 rfl (jj_keq ?_) jj_kno
    exact jj_vret (pc := 115) hX dX25_oneStep_115 hr ⟨Nat.le_refl _, Nat.le_refl _⟩ (⟨rfl, rfl, rfl, rfl, rfl⟩)

theorem w_os_0 {X : jj_X} (hX : jj_ok X cX25_oneStep "BranchCellsModel" 15 5 141 0 0) (hr : jj_Ret X none) (σ : jm) (t : Nat) (a : Int32) (ht : t < 85) (hp : jb (σ.1 32 t) 12) (hD : ∀ x xh y, m_ok1 t 0 x xh y σ → m_fault t 0 a x y (m_s2 t 0 σ) ≤ 0 → jm_M X.1 yX25_does cX25_does 10 none 4 112 [jI (nI t), jI 0, jI a, jL x, jI xh, jL y] (m_s2 t 0 σ) (m_does t 0 a x xh y (m_s2 t 0 σ)) none) : jj_J X (jj_End X (jj_eq none jm_T (m_s5 t 0 a σ).1 (m_s5 t 0 a σ).2 jm_R) jj_no 0 0) 0 0 91 [(0, jR (some 0)), (1, jI (nI t)), (3, jI 0), (4, jI a)] [] jm_T σ.1 σ.2 jm_R :=
  w_os_g0 hX hr σ t a ht hp 0 (by decide) rfl (by decide) (by decide) (by decide) (by decide) (by decide) rfl (hD 0 0 0 ⟨rfl, rfl, rfl⟩)
theorem w_os_1 {X : jj_X} (hX : jj_ok X cX25_oneStep "BranchCellsModel" 15 5 141 0 0) (hr : jj_Ret X none) (σ : jm) (t : Nat) (a : Int32) (ht : t < 85) (hp : jb (σ.1 32 t) 12) (hD : ∀ x xh y, m_ok1 t 1 x xh y σ → m_fault t 1 a x y (m_s2 t 0 σ) ≤ 0 → jm_M X.1 yX25_does cX25_does 10 none 4 112 [jI (nI t), jI 1, jI a, jL x, jI xh, jL y] (m_s2 t 0 σ) (m_does t 1 a x xh y (m_s2 t 0 σ)) none) : jj_J X (jj_End X (jj_eq none jm_T (m_s5 t 1 a σ).1 (m_s5 t 1 a σ).2 jm_R) jj_no 0 0) 0 0 91 [(0, jR (some 0)), (1, jI (nI t)), (3, jI 1), (4, jI a)] [] jm_T σ.1 σ.2 jm_R :=
  w_os_g0 hX hr σ t a ht hp 1 (by decide) rfl (by decide) (by decide) (by decide) (by decide) (by decide) rfl (hD 0 0 0 ⟨rfl, rfl, rfl⟩)
theorem w_os_2 {X : jj_X} (hX : jj_ok X cX25_oneStep "BranchCellsModel" 15 5 141 0 0) (hr : jj_Ret X none) (σ : jm) (t : Nat) (a : Int32) (ht : t < 85) (hp : jb (σ.1 32 t) 12) (hD : ∀ x xh y, m_ok1 t 2 x xh y σ → m_fault t 2 a x y (m_s2 t 1 σ) ≤ 0 → jm_M X.1 yX25_does cX25_does 10 none 4 112 [jI (nI t), jI 2, jI a, jL x, jI xh, jL y] (m_s2 t 1 σ) (m_does t 2 a x xh y (m_s2 t 1 σ)) none) : jj_J X (jj_End X (jj_eq none jm_T (m_s5 t 2 a σ).1 (m_s5 t 2 a σ).2 jm_R) jj_no 0 0) 0 0 91 [(0, jR (some 0)), (1, jI (nI t)), (3, jI 2), (4, jI a)] [] jm_T σ.1 σ.2 jm_R :=
  w_os_g1 hX hr σ t a ht hp 2 (by decide) rfl (by decide) (by decide) (by decide) (by decide) (by decide) rfl (fun h9 h162 => hD _ 0 0 ⟨rfl, rfl, h9, Or.inl ⟨rfl, h162, by decide⟩⟩)
theorem w_os_3 {X : jj_X} (hX : jj_ok X cX25_oneStep "BranchCellsModel" 15 5 141 0 0) (hr : jj_Ret X none) (σ : jm) (t : Nat) (a : Int32) (ht : t < 85) (hp : jb (σ.1 32 t) 12) (hD : ∀ x xh y, m_ok1 t 3 x xh y σ → m_fault t 3 a x y (m_s2 t 1 σ) ≤ 0 → jm_M X.1 yX25_does cX25_does 10 none 4 112 [jI (nI t), jI 3, jI a, jL x, jI xh, jL y] (m_s2 t 1 σ) (m_does t 3 a x xh y (m_s2 t 1 σ)) none) : jj_J X (jj_End X (jj_eq none jm_T (m_s5 t 3 a σ).1 (m_s5 t 3 a σ).2 jm_R) jj_no 0 0) 0 0 91 [(0, jR (some 0)), (1, jI (nI t)), (3, jI 3), (4, jI a)] [] jm_T σ.1 σ.2 jm_R :=
  w_os_g1 hX hr σ t a ht hp 3 (by decide) rfl (by decide) (by decide) (by decide) (by decide) (by decide) rfl (fun h9 h162 => hD _ 0 0 ⟨rfl, rfl, h9, Or.inl ⟨rfl, h162, by decide⟩⟩)
theorem w_os_4 {X : jj_X} (hX : jj_ok X cX25_oneStep "BranchCellsModel" 15 5 141 0 0) (hr : jj_Ret X none) (σ : jm) (t : Nat) (a : Int32) (ht : t < 85) (hp : jb (σ.1 32 t) 12) (hD : ∀ x xh y, m_ok1 t 4 x xh y σ → m_fault t 4 a x y (m_s2 t 2 σ) ≤ 0 → jm_M X.1 yX25_does cX25_does 10 none 4 112 [jI (nI t), jI 4, jI a, jL x, jI xh, jL y] (m_s2 t 2 σ) (m_does t 4 a x xh y (m_s2 t 2 σ)) none) : jj_J X (jj_End X (jj_eq none jm_T (m_s5 t 4 a σ).1 (m_s5 t 4 a σ).2 jm_R) jj_no 0 0) 0 0 91 [(0, jR (some 0)), (1, jI (nI t)), (3, jI 4), (4, jI a)] [] jm_T σ.1 σ.2 jm_R :=
  w_os_g2 hX hr σ t a ht hp 4 (by decide) rfl (by decide) (by decide) (by decide) (by decide) (by decide) rfl (fun h9 h162 h208 => hD _ 0 _ ⟨rfl, rfl, rfl, h9, h162, h208⟩)
theorem w_os_5 {X : jj_X} (hX : jj_ok X cX25_oneStep "BranchCellsModel" 15 5 141 0 0) (hr : jj_Ret X none) (σ : jm) (t : Nat) (a : Int32) (ht : t < 85) (hp : jb (σ.1 32 t) 12) (hD : ∀ x xh y, m_ok1 t 5 x xh y σ → m_fault t 5 a x y (m_s2 t 2 σ) ≤ 0 → jm_M X.1 yX25_does cX25_does 10 none 4 112 [jI (nI t), jI 5, jI a, jL x, jI xh, jL y] (m_s2 t 2 σ) (m_does t 5 a x xh y (m_s2 t 2 σ)) none) : jj_J X (jj_End X (jj_eq none jm_T (m_s5 t 5 a σ).1 (m_s5 t 5 a σ).2 jm_R) jj_no 0 0) 0 0 91 [(0, jR (some 0)), (1, jI (nI t)), (3, jI 5), (4, jI a)] [] jm_T σ.1 σ.2 jm_R :=
  w_os_g2 hX hr σ t a ht hp 5 (by decide) rfl (by decide) (by decide) (by decide) (by decide) (by decide) rfl (fun h9 h162 h208 => hD _ 0 _ ⟨rfl, rfl, rfl, h9, h162, h208⟩)
theorem w_os_6 {X : jj_X} (hX : jj_ok X cX25_oneStep "BranchCellsModel" 15 5 141 0 0) (hr : jj_Ret X none) (σ : jm) (t : Nat) (a : Int32) (ht : t < 85) (hp : jb (σ.1 32 t) 12) (hD : ∀ x xh y, m_ok1 t 6 x xh y σ → m_fault t 6 a x y (m_s2 t 2 σ) ≤ 0 → jm_M X.1 yX25_does cX25_does 10 none 4 112 [jI (nI t), jI 6, jI a, jL x, jI xh, jL y] (m_s2 t 2 σ) (m_does t 6 a x xh y (m_s2 t 2 σ)) none) : jj_J X (jj_End X (jj_eq none jm_T (m_s5 t 6 a σ).1 (m_s5 t 6 a σ).2 jm_R) jj_no 0 0) 0 0 91 [(0, jR (some 0)), (1, jI (nI t)), (3, jI 6), (4, jI a)] [] jm_T σ.1 σ.2 jm_R :=
  w_os_g2 hX hr σ t a ht hp 6 (by decide) rfl (by decide) (by decide) (by decide) (by decide) (by decide) rfl (fun h9 h162 h208 => hD _ 0 _ ⟨rfl, rfl, rfl, h9, h162, h208⟩)
theorem w_os_7 {X : jj_X} (hX : jj_ok X cX25_oneStep "BranchCellsModel" 15 5 141 0 0) (hr : jj_Ret X none) (σ : jm) (t : Nat) (a : Int32) (ht : t < 85) (hp : jb (σ.1 32 t) 12) (hD : ∀ x xh y, m_ok1 t 7 x xh y σ → m_fault t 7 a x y (m_s2 t 2 σ) ≤ 0 → jm_M X.1 yX25_does cX25_does 10 none 4 112 [jI (nI t), jI 7, jI a, jL x, jI xh, jL y] (m_s2 t 2 σ) (m_does t 7 a x xh y (m_s2 t 2 σ)) none) : jj_J X (jj_End X (jj_eq none jm_T (m_s5 t 7 a σ).1 (m_s5 t 7 a σ).2 jm_R) jj_no 0 0) 0 0 91 [(0, jR (some 0)), (1, jI (nI t)), (3, jI 7), (4, jI a)] [] jm_T σ.1 σ.2 jm_R :=
  w_os_g2 hX hr σ t a ht hp 7 (by decide) rfl (by decide) (by decide) (by decide) (by decide) (by decide) rfl (fun h9 h162 h208 => hD _ 0 _ ⟨rfl, rfl, rfl, h9, h162, h208⟩)
theorem w_os_8 {X : jj_X} (hX : jj_ok X cX25_oneStep "BranchCellsModel" 15 5 141 0 0) (hr : jj_Ret X none) (σ : jm) (t : Nat) (a : Int32) (ht : t < 85) (hp : jb (σ.1 32 t) 12) (hD : ∀ x xh y, m_ok1 t 8 x xh y σ → m_fault t 8 a x y (m_s2 t 2 σ) ≤ 0 → jm_M X.1 yX25_does cX25_does 10 none 4 112 [jI (nI t), jI 8, jI a, jL x, jI xh, jL y] (m_s2 t 2 σ) (m_does t 8 a x xh y (m_s2 t 2 σ)) none) : jj_J X (jj_End X (jj_eq none jm_T (m_s5 t 8 a σ).1 (m_s5 t 8 a σ).2 jm_R) jj_no 0 0) 0 0 91 [(0, jR (some 0)), (1, jI (nI t)), (3, jI 8), (4, jI a)] [] jm_T σ.1 σ.2 jm_R :=
  w_os_g2 hX hr σ t a ht hp 8 (by decide) rfl (by decide) (by decide) (by decide) (by decide) (by decide) rfl (fun h9 h162 h208 => hD _ 0 _ ⟨rfl, rfl, rfl, h9, h162, h208⟩)
theorem w_os_9 {X : jj_X} (hX : jj_ok X cX25_oneStep "BranchCellsModel" 15 5 141 0 0) (hr : jj_Ret X none) (σ : jm) (t : Nat) (a : Int32) (ht : t < 85) (hp : jb (σ.1 32 t) 12) (hD : ∀ x xh y, m_ok1 t 9 x xh y σ → m_fault t 9 a x y (m_s2 t 2 σ) ≤ 0 → jm_M X.1 yX25_does cX25_does 10 none 4 112 [jI (nI t), jI 9, jI a, jL x, jI xh, jL y] (m_s2 t 2 σ) (m_does t 9 a x xh y (m_s2 t 2 σ)) none) : jj_J X (jj_End X (jj_eq none jm_T (m_s5 t 9 a σ).1 (m_s5 t 9 a σ).2 jm_R) jj_no 0 0) 0 0 91 [(0, jR (some 0)), (1, jI (nI t)), (3, jI 9), (4, jI a)] [] jm_T σ.1 σ.2 jm_R :=
  w_os_g2 hX hr σ t a ht hp 9 (by decide) rfl (by decide) (by decide) (by decide) (by decide) (by decide) rfl (fun h9 h162 h208 => hD _ 0 _ ⟨rfl, rfl, rfl, h9, h162, h208⟩)
theorem w_os_10 {X : jj_X} (hX : jj_ok X cX25_oneStep "BranchCellsModel" 15 5 141 0 0) (hr : jj_Ret X none) (σ : jm) (t : Nat) (a : Int32) (ht : t < 85) (hp : jb (σ.1 32 t) 12) (hD : ∀ x xh y, m_ok1 t 10 x xh y σ → m_fault t 10 a x y (m_s2 t 2 σ) ≤ 0 → jm_M X.1 yX25_does cX25_does 10 none 4 112 [jI (nI t), jI 10, jI a, jL x, jI xh, jL y] (m_s2 t 2 σ) (m_does t 10 a x xh y (m_s2 t 2 σ)) none) : jj_J X (jj_End X (jj_eq none jm_T (m_s5 t 10 a σ).1 (m_s5 t 10 a σ).2 jm_R) jj_no 0 0) 0 0 91 [(0, jR (some 0)), (1, jI (nI t)), (3, jI 10), (4, jI a)] [] jm_T σ.1 σ.2 jm_R :=
  w_os_g2 hX hr σ t a ht hp 10 (by decide) rfl (by decide) (by decide) (by decide) (by decide) (by decide) rfl (fun h9 h162 h208 => hD _ 0 _ ⟨rfl, rfl, rfl, h9, h162, h208⟩)
theorem w_os_11 {X : jj_X} (hX : jj_ok X cX25_oneStep "BranchCellsModel" 15 5 141 0 0) (hr : jj_Ret X none) (σ : jm) (t : Nat) (a : Int32) (ht : t < 85) (hp : jb (σ.1 32 t) 12) (hD : ∀ x xh y, m_ok1 t 11 x xh y σ → m_fault t 11 a x y (m_s2 t 2 σ) ≤ 0 → jm_M X.1 yX25_does cX25_does 10 none 4 112 [jI (nI t), jI 11, jI a, jL x, jI xh, jL y] (m_s2 t 2 σ) (m_does t 11 a x xh y (m_s2 t 2 σ)) none) : jj_J X (jj_End X (jj_eq none jm_T (m_s5 t 11 a σ).1 (m_s5 t 11 a σ).2 jm_R) jj_no 0 0) 0 0 91 [(0, jR (some 0)), (1, jI (nI t)), (3, jI 11), (4, jI a)] [] jm_T σ.1 σ.2 jm_R :=
  w_os_g2 hX hr σ t a ht hp 11 (by decide) rfl (by decide) (by decide) (by decide) (by decide) (by decide) rfl (fun h9 h162 h208 => hD _ 0 _ ⟨rfl, rfl, rfl, h9, h162, h208⟩)
theorem w_os_12 {X : jj_X} (hX : jj_ok X cX25_oneStep "BranchCellsModel" 15 5 141 0 0) (hr : jj_Ret X none) (σ : jm) (t : Nat) (a : Int32) (ht : t < 85) (hp : jb (σ.1 32 t) 12) (hD : ∀ x xh y, m_ok1 t 12 x xh y σ → m_fault t 12 a x y (m_s2 t 0 σ) ≤ 0 → jm_M X.1 yX25_does cX25_does 10 none 4 112 [jI (nI t), jI 12, jI a, jL x, jI xh, jL y] (m_s2 t 0 σ) (m_does t 12 a x xh y (m_s2 t 0 σ)) none) : jj_J X (jj_End X (jj_eq none jm_T (m_s5 t 12 a σ).1 (m_s5 t 12 a σ).2 jm_R) jj_no 0 0) 0 0 91 [(0, jR (some 0)), (1, jI (nI t)), (3, jI 12), (4, jI a)] [] jm_T σ.1 σ.2 jm_R :=
  w_os_g0 hX hr σ t a ht hp 12 (by decide) rfl (by decide) (by decide) (by decide) (by decide) (by decide) rfl (hD 0 0 0 ⟨rfl, rfl, rfl⟩)
theorem w_os_13 {X : jj_X} (hX : jj_ok X cX25_oneStep "BranchCellsModel" 15 5 141 0 0) (hr : jj_Ret X none) (σ : jm) (t : Nat) (a : Int32) (ht : t < 85) (hp : jb (σ.1 32 t) 12) (hD : ∀ x xh y, m_ok1 t 13 x xh y σ → m_fault t 13 a x y (m_s2 t 1 σ) ≤ 0 → jm_M X.1 yX25_does cX25_does 10 none 4 112 [jI (nI t), jI 13, jI a, jL x, jI xh, jL y] (m_s2 t 1 σ) (m_does t 13 a x xh y (m_s2 t 1 σ)) none) : jj_J X (jj_End X (jj_eq none jm_T (m_s5 t 13 a σ).1 (m_s5 t 13 a σ).2 jm_R) jj_no 0 0) 0 0 91 [(0, jR (some 0)), (1, jI (nI t)), (3, jI 13), (4, jI a)] [] jm_T σ.1 σ.2 jm_R :=
  w_os_g1 hX hr σ t a ht hp 13 (by decide) rfl (by decide) (by decide) (by decide) (by decide) (by decide) rfl (fun h9 h162 => hD _ 0 0 ⟨rfl, rfl, h9, Or.inl ⟨rfl, h162, by decide⟩⟩)
theorem w_os_14 {X : jj_X} (hX : jj_ok X cX25_oneStep "BranchCellsModel" 15 5 141 0 0) (hr : jj_Ret X none) (σ : jm) (t : Nat) (a : Int32) (ht : t < 85) (hp : jb (σ.1 32 t) 12) (hD : ∀ x xh y, m_ok1 t 14 x xh y σ → m_fault t 14 a x y (m_s2 t 0 σ) ≤ 0 → jm_M X.1 yX25_does cX25_does 10 none 4 112 [jI (nI t), jI 14, jI a, jL x, jI xh, jL y] (m_s2 t 0 σ) (m_does t 14 a x xh y (m_s2 t 0 σ)) none) : jj_J X (jj_End X (jj_eq none jm_T (m_s5 t 14 a σ).1 (m_s5 t 14 a σ).2 jm_R) jj_no 0 0) 0 0 91 [(0, jR (some 0)), (1, jI (nI t)), (3, jI 14), (4, jI a)] [] jm_T σ.1 σ.2 jm_R :=
  w_os_g0 hX hr σ t a ht hp 14 (by decide) rfl (by decide) (by decide) (by decide) (by decide) (by decide) rfl (hD 0 0 0 ⟨rfl, rfl, rfl⟩)
theorem w_os_19 {X : jj_X} (hX : jj_ok X cX25_oneStep "BranchCellsModel" 15 5 141 0 0) (hr : jj_Ret X none) (σ : jm) (t : Nat) (a : Int32) (ht : t < 85) (hp : jb (σ.1 32 t) 12) (hD : ∀ x xh y, m_ok1 t 19 x xh y σ → m_fault t 19 a x y (m_s2 t 1 σ) ≤ 0 → jm_M X.1 yX25_does cX25_does 10 none 4 112 [jI (nI t), jI 19, jI a, jL x, jI xh, jL y] (m_s2 t 1 σ) (m_does t 19 a x xh y (m_s2 t 1 σ)) none) : jj_J X (jj_End X (jj_eq none jm_T (m_s5 t 19 a σ).1 (m_s5 t 19 a σ).2 jm_R) jj_no 0 0) 0 0 91 [(0, jR (some 0)), (1, jI (nI t)), (3, jI 19), (4, jI a)] [] jm_T σ.1 σ.2 jm_R :=
  w_os_g1 hX hr σ t a ht hp 19 (by decide) rfl (by decide) (by decide) (by decide) (by decide) (by decide) rfl (fun h9 h162 => hD _ 0 0 ⟨rfl, rfl, h9, Or.inl ⟨rfl, h162, by decide⟩⟩)
theorem w_os_21 {X : jj_X} (hX : jj_ok X cX25_oneStep "BranchCellsModel" 15 5 141 0 0) (hr : jj_Ret X none) (σ : jm) (t : Nat) (a : Int32) (ht : t < 85) (hp : jb (σ.1 32 t) 12) (hD : ∀ x xh y, m_ok1 t 21 x xh y σ → m_fault t 21 a x y (m_s2 t 1 σ) ≤ 0 → jm_M X.1 yX25_does cX25_does 10 none 4 112 [jI (nI t), jI 21, jI a, jL x, jI xh, jL y] (m_s2 t 1 σ) (m_does t 21 a x xh y (m_s2 t 1 σ)) none) : jj_J X (jj_End X (jj_eq none jm_T (m_s5 t 21 a σ).1 (m_s5 t 21 a σ).2 jm_R) jj_no 0 0) 0 0 91 [(0, jR (some 0)), (1, jI (nI t)), (3, jI 21), (4, jI a)] [] jm_T σ.1 σ.2 jm_R :=
  w_os_g1 hX hr σ t a ht hp 21 (by decide) rfl (by decide) (by decide) (by decide) (by decide) (by decide) rfl (fun h9 h162 => hD _ 0 0 ⟨rfl, rfl, h9, Or.inl ⟨rfl, h162, by decide⟩⟩)
theorem w_step_0 (G : jj_G) (σ : jm) (t : Nat) (ht : t < 85) (hb : jb (σ.1 13 t) 7) (hpl : jb (σ.1 14 t) 39) (hop : m_op t σ = 0) (hp : jb (σ.1 32 t) 12) (hD : ∀ x xh y, m_ok1 t 0 x xh y (m_s1 t 0 σ) → m_fault t 0 (m_oa t σ) x y (m_s2 t 0 (m_s1 t 0 σ)) ≤ 0 → jm_M G yX25_does cX25_does 10 none 4 112 [jI (nI t), jI 0, jI (m_oa t σ), jL x, jI xh, jL y] (m_s2 t 0 (m_s1 t 0 σ)) (m_does t 0 (m_oa t σ) x xh y (m_s2 t 0 (m_s1 t 0 σ))) none) : jm_M G yX25_oneStep cX25_oneStep 15 none 5 141 [jI (nI t)] σ (m_step t σ) none := by
  refine jj_intro "BranchCellsModel" (by decide) rfl (Nat.le_of_ble_eq_true rfl) ?_
  intro X hG hX hr hN hC hF
  subst hG
  refine w_os_p hX hr σ t 0 ht hb hpl hop (m_step t σ) (fun h => ?_) (fun h => ?_)
  · unfold m_step; rw [hop]; exact if_neg h
  · have e9 : m_step t σ = m_s5 t 0 (m_oa t σ) (m_s1 t 0 σ) := by unfold m_step; rw [hop]; exact if_pos h
    rw [e9]
    exact w_os_0 hX hr (m_s1 t 0 σ) t _ ht hp hD

theorem w_step_1 (G : jj_G) (σ : jm) (t : Nat) (ht : t < 85) (hb : jb (σ.1 13 t) 7) (hpl : jb (σ.1 14 t) 39) (hop : m_op t σ = 1) (hp : jb (σ.1 32 t) 12) (hD : ∀ x xh y, m_ok1 t 1 x xh y (m_s1 t 1 σ) → m_fault t 1 (m_oa t σ) x y (m_s2 t 0 (m_s1 t 1 σ)) ≤ 0 → jm_M G yX25_does cX25_does 10 none 4 112 [jI (nI t), jI 1, jI (m_oa t σ), jL x, jI xh, jL y] (m_s2 t 0 (m_s1 t 1 σ)) (m_does t 1 (m_oa t σ) x xh y (m_s2 t 0 (m_s1 t 1 σ))) none) : jm_M G yX25_oneStep cX25_oneStep 15 none 5 141 [jI (nI t)] σ (m_step t σ) none := by
  refine jj_intro "BranchCellsModel" (by decide) rfl (Nat.le_of_ble_eq_true rfl) ?_
  intro X hG hX hr hN hC hF
  subst hG
  refine w_os_p hX hr σ t 1 ht hb hpl hop (m_step t σ) (fun h => ?_) (fun h => ?_)
  · unfold m_step; rw [hop]; exact if_neg h
  · have e9 : m_step t σ = m_s5 t 1 (m_oa t σ) (m_s1 t 1 σ) := by unfold m_step; rw [hop]; exact if_pos h
    rw [e9]
    exact w_os_1 hX hr (m_s1 t 1 σ) t _ ht hp hD

theorem w_step_2 (G : jj_G) (σ : jm) (t : Nat) (ht : t < 85) (hb : jb (σ.1 13 t) 7) (hpl : jb (σ.1 14 t) 39) (hop : m_op t σ = 2) (hp : jb (σ.1 32 t) 12) (hD : ∀ x xh y, m_ok1 t 2 x xh y (m_s1 t 2 σ) → m_fault t 2 (m_oa t σ) x y (m_s2 t 1 (m_s1 t 2 σ)) ≤ 0 → jm_M G yX25_does cX25_does 10 none 4 112 [jI (nI t), jI 2, jI (m_oa t σ), jL x, jI xh, jL y] (m_s2 t 1 (m_s1 t 2 σ)) (m_does t 2 (m_oa t σ) x xh y (m_s2 t 1 (m_s1 t 2 σ))) none) : jm_M G yX25_oneStep cX25_oneStep 15 none 5 141 [jI (nI t)] σ (m_step t σ) none := by
  refine jj_intro "BranchCellsModel" (by decide) rfl (Nat.le_of_ble_eq_true rfl) ?_
  intro X hG hX hr hN hC hF
  subst hG
  refine w_os_p hX hr σ t 2 ht hb hpl hop (m_step t σ) (fun h => ?_) (fun h => ?_)
  · unfold m_step; rw [hop]; exact if_neg h
  · have e9 : m_step t σ = m_s5 t 2 (m_oa t σ) (m_s1 t 2 σ) := by unfold m_step; rw [hop]; exact if_pos h
    rw [e9]
    exact w_os_2 hX hr (m_s1 t 2 σ) t _ ht hp hD

theorem w_step_3 (G : jj_G) (σ : jm) (t : Nat) (ht : t < 85) (hb : jb (σ.1 13 t) 7) (hpl : jb (σ.1 14 t) 39) (hop : m_op t σ = 3) (hp : jb (σ.1 32 t) 12) (hD : ∀ x xh y, m_ok1 t 3 x xh y (m_s1 t 3 σ) → m_fault t 3 (m_oa t σ) x y (m_s2 t 1 (m_s1 t 3 σ)) ≤ 0 → jm_M G yX25_does cX25_does 10 none 4 112 [jI (nI t), jI 3, jI (m_oa t σ), jL x, jI xh, jL y] (m_s2 t 1 (m_s1 t 3 σ)) (m_does t 3 (m_oa t σ) x xh y (m_s2 t 1 (m_s1 t 3 σ))) none) : jm_M G yX25_oneStep cX25_oneStep 15 none 5 141 [jI (nI t)] σ (m_step t σ) none := by
  refine jj_intro "BranchCellsModel" (by decide) rfl (Nat.le_of_ble_eq_true rfl) ?_
  intro X hG hX hr hN hC hF
  subst hG
  refine w_os_p hX hr σ t 3 ht hb hpl hop (m_step t σ) (fun h => ?_) (fun h => ?_)
  · unfold m_step; rw [hop]; exact if_neg h
  · have e9 : m_step t σ = m_s5 t 3 (m_oa t σ) (m_s1 t 3 σ) := by unfold m_step; rw [hop]; exact if_pos h
    rw [e9]
    exact w_os_3 hX hr (m_s1 t 3 σ) t _ ht hp hD

theorem w_step_4 (G : jj_G) (σ : jm) (t : Nat) (ht : t < 85) (hb : jb (σ.1 13 t) 7) (hpl : jb (σ.1 14 t) 39) (hop : m_op t σ = 4) (hp : jb (σ.1 32 t) 12) (hD : ∀ x xh y, m_ok1 t 4 x xh y (m_s1 t 4 σ) → m_fault t 4 (m_oa t σ) x y (m_s2 t 2 (m_s1 t 4 σ)) ≤ 0 → jm_M G yX25_does cX25_does 10 none 4 112 [jI (nI t), jI 4, jI (m_oa t σ), jL x, jI xh, jL y] (m_s2 t 2 (m_s1 t 4 σ)) (m_does t 4 (m_oa t σ) x xh y (m_s2 t 2 (m_s1 t 4 σ))) none) : jm_M G yX25_oneStep cX25_oneStep 15 none 5 141 [jI (nI t)] σ (m_step t σ) none := by
  refine jj_intro "BranchCellsModel" (by decide) rfl (Nat.le_of_ble_eq_true rfl) ?_
  intro X hG hX hr hN hC hF
  subst hG
  refine w_os_p hX hr σ t 4 ht hb hpl hop (m_step t σ) (fun h => ?_) (fun h => ?_)
  · unfold m_step; rw [hop]; exact if_neg h
  · have e9 : m_step t σ = m_s5 t 4 (m_oa t σ) (m_s1 t 4 σ) := by unfold m_step; rw [hop]; exact if_pos h
    rw [e9]
    exact w_os_4 hX hr (m_s1 t 4 σ) t _ ht hp hD

theorem w_step_5 (G : jj_G) (σ : jm) (t : Nat) (ht : t < 85) (hb : jb (σ.1 13 t) 7) (hpl : jb (σ.1 14 t) 39) (hop : m_op t σ = 5) (hp : jb (σ.1 32 t) 12) (hD : ∀ x xh y, m_ok1 t 5 x xh y (m_s1 t 5 σ) → m_fault t 5 (m_oa t σ) x y (m_s2 t 2 (m_s1 t 5 σ)) ≤ 0 → jm_M G yX25_does cX25_does 10 none 4 112 [jI (nI t), jI 5, jI (m_oa t σ), jL x, jI xh, jL y] (m_s2 t 2 (m_s1 t 5 σ)) (m_does t 5 (m_oa t σ) x xh y (m_s2 t 2 (m_s1 t 5 σ))) none) : jm_M G yX25_oneStep cX25_oneStep 15 none 5 141 [jI (nI t)] σ (m_step t σ) none := by
  refine jj_intro "BranchCellsModel" (by decide) rfl (Nat.le_of_ble_eq_true rfl) ?_
  intro X hG hX hr hN hC hF
  subst hG
  refine w_os_p hX hr σ t 5 ht hb hpl hop (m_step t σ) (fun h => ?_) (fun h => ?_)
  · unfold m_step; rw [hop]; exact if_neg h
  · have e9 : m_step t σ = m_s5 t 5 (m_oa t σ) (m_s1 t 5 σ) := by unfold m_step; rw [hop]; exact if_pos h
    rw [e9]
    exact w_os_5 hX hr (m_s1 t 5 σ) t _ ht hp hD

theorem w_step_6 (G : jj_G) (σ : jm) (t : Nat) (ht : t < 85) (hb : jb (σ.1 13 t) 7) (hpl : jb (σ.1 14 t) 39) (hop : m_op t σ = 6) (hp : jb (σ.1 32 t) 12) (hD : ∀ x xh y, m_ok1 t 6 x xh y (m_s1 t 6 σ) → m_fault t 6 (m_oa t σ) x y (m_s2 t 2 (m_s1 t 6 σ)) ≤ 0 → jm_M G yX25_does cX25_does 10 none 4 112 [jI (nI t), jI 6, jI (m_oa t σ), jL x, jI xh, jL y] (m_s2 t 2 (m_s1 t 6 σ)) (m_does t 6 (m_oa t σ) x xh y (m_s2 t 2 (m_s1 t 6 σ))) none) : jm_M G yX25_oneStep cX25_oneStep 15 none 5 141 [jI (nI t)] σ (m_step t σ) none := by
  refine jj_intro "BranchCellsModel" (by decide) rfl (Nat.le_of_ble_eq_true rfl) ?_
  intro X hG hX hr hN hC hF
  subst hG
  refine w_os_p hX hr σ t 6 ht hb hpl hop (m_step t σ) (fun h => ?_) (fun h => ?_)
  · unfold m_step; rw [hop]; exact if_neg h
  · have e9 : m_step t σ = m_s5 t 6 (m_oa t σ) (m_s1 t 6 σ) := by unfold m_step; rw [hop]; exact if_pos h
    rw [e9]
    exact w_os_6 hX hr (m_s1 t 6 σ) t _ ht hp hD

theorem w_step_7 (G : jj_G) (σ : jm) (t : Nat) (ht : t < 85) (hb : jb (σ.1 13 t) 7) (hpl : jb (σ.1 14 t) 39) (hop : m_op t σ = 7) (hp : jb (σ.1 32 t) 12) (hD : ∀ x xh y, m_ok1 t 7 x xh y (m_s1 t 7 σ) → m_fault t 7 (m_oa t σ) x y (m_s2 t 2 (m_s1 t 7 σ)) ≤ 0 → jm_M G yX25_does cX25_does 10 none 4 112 [jI (nI t), jI 7, jI (m_oa t σ), jL x, jI xh, jL y] (m_s2 t 2 (m_s1 t 7 σ)) (m_does t 7 (m_oa t σ) x xh y (m_s2 t 2 (m_s1 t 7 σ))) none) : jm_M G yX25_oneStep cX25_oneStep 15 none 5 141 [jI (nI t)] σ (m_step t σ) none := by
  refine jj_intro "BranchCellsModel" (by decide) rfl (Nat.le_of_ble_eq_true rfl) ?_
  intro X hG hX hr hN hC hF
  subst hG
  refine w_os_p hX hr σ t 7 ht hb hpl hop (m_step t σ) (fun h => ?_) (fun h => ?_)
  · unfold m_step; rw [hop]; exact if_neg h
  · have e9 : m_step t σ = m_s5 t 7 (m_oa t σ) (m_s1 t 7 σ) := by unfold m_step; rw [hop]; exact if_pos h
    rw [e9]
    exact w_os_7 hX hr (m_s1 t 7 σ) t _ ht hp hD

theorem w_step_8 (G : jj_G) (σ : jm) (t : Nat) (ht : t < 85) (hb : jb (σ.1 13 t) 7) (hpl : jb (σ.1 14 t) 39) (hop : m_op t σ = 8) (hp : jb (σ.1 32 t) 12) (hD : ∀ x xh y, m_ok1 t 8 x xh y (m_s1 t 8 σ) → m_fault t 8 (m_oa t σ) x y (m_s2 t 2 (m_s1 t 8 σ)) ≤ 0 → jm_M G yX25_does cX25_does 10 none 4 112 [jI (nI t), jI 8, jI (m_oa t σ), jL x, jI xh, jL y] (m_s2 t 2 (m_s1 t 8 σ)) (m_does t 8 (m_oa t σ) x xh y (m_s2 t 2 (m_s1 t 8 σ))) none) : jm_M G yX25_oneStep cX25_oneStep 15 none 5 141 [jI (nI t)] σ (m_step t σ) none := by
  refine jj_intro "BranchCellsModel" (by decide) rfl (Nat.le_of_ble_eq_true rfl) ?_
  intro X hG hX hr hN hC hF
  subst hG
  refine w_os_p hX hr σ t 8 ht hb hpl hop (m_step t σ) (fun h => ?_) (fun h => ?_)
  · unfold m_step; rw [hop]; exact if_neg h
  · have e9 : m_step t σ = m_s5 t 8 (m_oa t σ) (m_s1 t 8 σ) := by unfold m_step; rw [hop]; exact if_pos h
    rw [e9]
    exact w_os_8 hX hr (m_s1 t 8 σ) t _ ht hp hD

theorem w_step_9 (G : jj_G) (σ : jm) (t : Nat) (ht : t < 85) (hb : jb (σ.1 13 t) 7) (hpl : jb (σ.1 14 t) 39) (hop : m_op t σ = 9) (hp : jb (σ.1 32 t) 12) (hD : ∀ x xh y, m_ok1 t 9 x xh y (m_s1 t 9 σ) → m_fault t 9 (m_oa t σ) x y (m_s2 t 2 (m_s1 t 9 σ)) ≤ 0 → jm_M G yX25_does cX25_does 10 none 4 112 [jI (nI t), jI 9, jI (m_oa t σ), jL x, jI xh, jL y] (m_s2 t 2 (m_s1 t 9 σ)) (m_does t 9 (m_oa t σ) x xh y (m_s2 t 2 (m_s1 t 9 σ))) none) : jm_M G yX25_oneStep cX25_oneStep 15 none 5 141 [jI (nI t)] σ (m_step t σ) none := by
  refine jj_intro "BranchCellsModel" (by decide) rfl (Nat.le_of_ble_eq_true rfl) ?_
  intro X hG hX hr hN hC hF
  subst hG
  refine w_os_p hX hr σ t 9 ht hb hpl hop (m_step t σ) (fun h => ?_) (fun h => ?_)
  · unfold m_step; rw [hop]; exact if_neg h
  · have e9 : m_step t σ = m_s5 t 9 (m_oa t σ) (m_s1 t 9 σ) := by unfold m_step; rw [hop]; exact if_pos h
    rw [e9]
    exact w_os_9 hX hr (m_s1 t 9 σ) t _ ht hp hD

theorem w_step_10 (G : jj_G) (σ : jm) (t : Nat) (ht : t < 85) (hb : jb (σ.1 13 t) 7) (hpl : jb (σ.1 14 t) 39) (hop : m_op t σ = 10) (hp : jb (σ.1 32 t) 12) (hD : ∀ x xh y, m_ok1 t 10 x xh y (m_s1 t 10 σ) → m_fault t 10 (m_oa t σ) x y (m_s2 t 2 (m_s1 t 10 σ)) ≤ 0 → jm_M G yX25_does cX25_does 10 none 4 112 [jI (nI t), jI 10, jI (m_oa t σ), jL x, jI xh, jL y] (m_s2 t 2 (m_s1 t 10 σ)) (m_does t 10 (m_oa t σ) x xh y (m_s2 t 2 (m_s1 t 10 σ))) none) : jm_M G yX25_oneStep cX25_oneStep 15 none 5 141 [jI (nI t)] σ (m_step t σ) none := by
  refine jj_intro "BranchCellsModel" (by decide) rfl (Nat.le_of_ble_eq_true rfl) ?_
  intro X hG hX hr hN hC hF
  subst hG
  refine w_os_p hX hr σ t 10 ht hb hpl hop (m_step t σ) (fun h => ?_) (fun h => ?_)
  · unfold m_step; rw [hop]; exact if_neg h
  · have e9 : m_step t σ = m_s5 t 10 (m_oa t σ) (m_s1 t 10 σ) := by unfold m_step; rw [hop]; exact if_pos h
    rw [e9]
    exact w_os_10 hX hr (m_s1 t 10 σ) t _ ht hp hD

theorem w_step_11 (G : jj_G) (σ : jm) (t : Nat) (ht : t < 85) (hb : jb (σ.1 13 t) 7) (hpl : jb (σ.1 14 t) 39) (hop : m_op t σ = 11) (hp : jb (σ.1 32 t) 12) (hD : ∀ x xh y, m_ok1 t 11 x xh y (m_s1 t 11 σ) → m_fault t 11 (m_oa t σ) x y (m_s2 t 2 (m_s1 t 11 σ)) ≤ 0 → jm_M G yX25_does cX25_does 10 none 4 112 [jI (nI t), jI 11, jI (m_oa t σ), jL x, jI xh, jL y] (m_s2 t 2 (m_s1 t 11 σ)) (m_does t 11 (m_oa t σ) x xh y (m_s2 t 2 (m_s1 t 11 σ))) none) : jm_M G yX25_oneStep cX25_oneStep 15 none 5 141 [jI (nI t)] σ (m_step t σ) none := by
  refine jj_intro "BranchCellsModel" (by decide) rfl (Nat.le_of_ble_eq_true rfl) ?_
  intro X hG hX hr hN hC hF
  subst hG
  refine w_os_p hX hr σ t 11 ht hb hpl hop (m_step t σ) (fun h => ?_) (fun h => ?_)
  · unfold m_step; rw [hop]; exact if_neg h
  · have e9 : m_step t σ = m_s5 t 11 (m_oa t σ) (m_s1 t 11 σ) := by unfold m_step; rw [hop]; exact if_pos h
    rw [e9]
    exact w_os_11 hX hr (m_s1 t 11 σ) t _ ht hp hD

theorem w_step_12 (G : jj_G) (σ : jm) (t : Nat) (ht : t < 85) (hb : jb (σ.1 13 t) 7) (hpl : jb (σ.1 14 t) 39) (hop : m_op t σ = 12) (hp : jb (σ.1 32 t) 12) (hD : ∀ x xh y, m_ok1 t 12 x xh y (m_s1 t 12 σ) → m_fault t 12 (m_oa t σ) x y (m_s2 t 0 (m_s1 t 12 σ)) ≤ 0 → jm_M G yX25_does cX25_does 10 none 4 112 [jI (nI t), jI 12, jI (m_oa t σ), jL x, jI xh, jL y] (m_s2 t 0 (m_s1 t 12 σ)) (m_does t 12 (m_oa t σ) x xh y (m_s2 t 0 (m_s1 t 12 σ))) none) : jm_M G yX25_oneStep cX25_oneStep 15 none 5 141 [jI (nI t)] σ (m_step t σ) none := by
  refine jj_intro "BranchCellsModel" (by decide) rfl (Nat.le_of_ble_eq_true rfl) ?_
  intro X hG hX hr hN hC hF
  subst hG
  refine w_os_p hX hr σ t 12 ht hb hpl hop (m_step t σ) (fun h => ?_) (fun h => ?_)
  · unfold m_step; rw [hop]; exact if_neg h
  · have e9 : m_step t σ = m_s5 t 12 (m_oa t σ) (m_s1 t 12 σ) := by unfold m_step; rw [hop]; exact if_pos h
    rw [e9]
    exact w_os_12 hX hr (m_s1 t 12 σ) t _ ht hp hD

theorem w_step_13 (G : jj_G) (σ : jm) (t : Nat) (ht : t < 85) (hb : jb (σ.1 13 t) 7) (hpl : jb (σ.1 14 t) 39) (hop : m_op t σ = 13) (hp : jb (σ.1 32 t) 12) (hD : ∀ x xh y, m_ok1 t 13 x xh y (m_s1 t 13 σ) → m_fault t 13 (m_oa t σ) x y (m_s2 t 1 (m_s1 t 13 σ)) ≤ 0 → jm_M G yX25_does cX25_does 10 none 4 112 [jI (nI t), jI 13, jI (m_oa t σ), jL x, jI xh, jL y] (m_s2 t 1 (m_s1 t 13 σ)) (m_does t 13 (m_oa t σ) x xh y (m_s2 t 1 (m_s1 t 13 σ))) none) : jm_M G yX25_oneStep cX25_oneStep 15 none 5 141 [jI (nI t)] σ (m_step t σ) none := by
  refine jj_intro "BranchCellsModel" (by decide) rfl (Nat.le_of_ble_eq_true rfl) ?_
  intro X hG hX hr hN hC hF
  subst hG
  refine w_os_p hX hr σ t 13 ht hb hpl hop (m_step t σ) (fun h => ?_) (fun h => ?_)
  · unfold m_step; rw [hop]; exact if_neg h
  · have e9 : m_step t σ = m_s5 t 13 (m_oa t σ) (m_s1 t 13 σ) := by unfold m_step; rw [hop]; exact if_pos h
    rw [e9]
    exact w_os_13 hX hr (m_s1 t 13 σ) t _ ht hp hD

theorem w_step_14 (G : jj_G) (σ : jm) (t : Nat) (ht : t < 85) (hb : jb (σ.1 13 t) 7) (hpl : jb (σ.1 14 t) 39) (hop : m_op t σ = 14) (hp : jb (σ.1 32 t) 12) (hD : ∀ x xh y, m_ok1 t 14 x xh y (m_s1 t 14 σ) → m_fault t 14 (m_oa t σ) x y (m_s2 t 0 (m_s1 t 14 σ)) ≤ 0 → jm_M G yX25_does cX25_does 10 none 4 112 [jI (nI t), jI 14, jI (m_oa t σ), jL x, jI xh, jL y] (m_s2 t 0 (m_s1 t 14 σ)) (m_does t 14 (m_oa t σ) x xh y (m_s2 t 0 (m_s1 t 14 σ))) none) : jm_M G yX25_oneStep cX25_oneStep 15 none 5 141 [jI (nI t)] σ (m_step t σ) none := by
  refine jj_intro "BranchCellsModel" (by decide) rfl (Nat.le_of_ble_eq_true rfl) ?_
  intro X hG hX hr hN hC hF
  subst hG
  refine w_os_p hX hr σ t 14 ht hb hpl hop (m_step t σ) (fun h => ?_) (fun h => ?_)
  · unfold m_step; rw [hop]; exact if_neg h
  · have e9 : m_step t σ = m_s5 t 14 (m_oa t σ) (m_s1 t 14 σ) := by unfold m_step; rw [hop]; exact if_pos h
    rw [e9]
    exact w_os_14 hX hr (m_s1 t 14 σ) t _ ht hp hD

theorem w_step_15 (G : jj_G) (σ : jm) (t : Nat) (ht : t < 85) (hb : jb (σ.1 13 t) 7) (hpl : jb (σ.1 14 t) 39) (hop : m_op t σ = 15) (hp : jb (σ.1 32 t) 12) (hD : ∀ x xh y, m_ok1 t 15 x xh y (m_s1 t 15 σ) → m_fault t 15 (m_oa t σ) x y (m_s2 t 1 (m_s1 t 15 σ)) ≤ 0 → jm_M G yX25_does cX25_does 10 none 4 112 [jI (nI t), jI 15, jI (m_oa t σ), jL x, jI xh, jL y] (m_s2 t 1 (m_s1 t 15 σ)) (m_does t 15 (m_oa t σ) x xh y (m_s2 t 1 (m_s1 t 15 σ))) none) : jm_M G yX25_oneStep cX25_oneStep 15 none 5 141 [jI (nI t)] σ (m_step t σ) none := by
  refine jj_intro "BranchCellsModel" (by decide) rfl (Nat.le_of_ble_eq_true rfl) ?_
  intro X hG hX hr hN hC hF
  subst hG
  refine w_os_p hX hr σ t 15 ht hb hpl hop (m_step t σ) (fun h => ?_) (fun h => ?_)
  · unfold m_step; rw [hop]; exact if_neg h
  · have e9 : m_step t σ = m_s5 t 15 (m_oa t σ) (m_s1 t 15 σ) := by unfold m_step; rw [hop]; exact if_pos h
    rw [e9]
    exact w_os_15 hX hr (m_s1 t 15 σ) t _ ht hp hD

theorem w_step_16 (G : jj_G) (σ : jm) (t : Nat) (ht : t < 85) (hb : jb (σ.1 13 t) 7) (hpl : jb (σ.1 14 t) 39) (hop : m_op t σ = 16) (hp : jb (σ.1 32 t) 12) (hD : ∀ x xh y, m_ok1 t 16 x xh y (m_s1 t 16 σ) → m_fault t 16 (m_oa t σ) x y (m_s2 t 1 (m_s1 t 16 σ)) ≤ 0 → jm_M G yX25_does cX25_does 10 none 4 112 [jI (nI t), jI 16, jI (m_oa t σ), jL x, jI xh, jL y] (m_s2 t 1 (m_s1 t 16 σ)) (m_does t 16 (m_oa t σ) x xh y (m_s2 t 1 (m_s1 t 16 σ))) none) : jm_M G yX25_oneStep cX25_oneStep 15 none 5 141 [jI (nI t)] σ (m_step t σ) none := by
  refine jj_intro "BranchCellsModel" (by decide) rfl (Nat.le_of_ble_eq_true rfl) ?_
  intro X hG hX hr hN hC hF
  subst hG
  refine w_os_p hX hr σ t 16 ht hb hpl hop (m_step t σ) (fun h => ?_) (fun h => ?_)
  · unfold m_step; rw [hop]; exact if_neg h
  · have e9 : m_step t σ = m_s5 t 16 (m_oa t σ) (m_s1 t 16 σ) := by unfold m_step; rw [hop]; exact if_pos h
    rw [e9]
    exact w_os_16 hX hr (m_s1 t 16 σ) t _ ht hp hD

theorem w_step_17 (G : jj_G) (σ : jm) (t : Nat) (ht : t < 85) (hb : jb (σ.1 13 t) 7) (hpl : jb (σ.1 14 t) 39) (hop : m_op t σ = 17) (hp : jb (σ.1 32 t) 12) (hD : ∀ x xh y, m_ok1 t 17 x xh y (m_s1 t 17 σ) → m_fault t 17 (m_oa t σ) x y (m_s2 t 1 (m_s1 t 17 σ)) ≤ 0 → jm_M G yX25_does cX25_does 10 none 4 112 [jI (nI t), jI 17, jI (m_oa t σ), jL x, jI xh, jL y] (m_s2 t 1 (m_s1 t 17 σ)) (m_does t 17 (m_oa t σ) x xh y (m_s2 t 1 (m_s1 t 17 σ))) none) : jm_M G yX25_oneStep cX25_oneStep 15 none 5 141 [jI (nI t)] σ (m_step t σ) none := by
  refine jj_intro "BranchCellsModel" (by decide) rfl (Nat.le_of_ble_eq_true rfl) ?_
  intro X hG hX hr hN hC hF
  subst hG
  refine w_os_p hX hr σ t 17 ht hb hpl hop (m_step t σ) (fun h => ?_) (fun h => ?_)
  · unfold m_step; rw [hop]; exact if_neg h
  · have e9 : m_step t σ = m_s5 t 17 (m_oa t σ) (m_s1 t 17 σ) := by unfold m_step; rw [hop]; exact if_pos h
    rw [e9]
    exact w_os_17 hX hr (m_s1 t 17 σ) t _ ht hp hD

theorem w_step_18 (G : jj_G) (σ : jm) (t : Nat) (ht : t < 85) (hb : jb (σ.1 13 t) 7) (hpl : jb (σ.1 14 t) 39) (hop : m_op t σ = 18) (hp : jb (σ.1 32 t) 12) (hD : ∀ x xh y, m_ok1 t 18 x xh y (m_s1 t 18 σ) → m_fault t 18 (m_oa t σ) x y (m_s2 t 1 (m_s1 t 18 σ)) ≤ 0 → jm_M G yX25_does cX25_does 10 none 4 112 [jI (nI t), jI 18, jI (m_oa t σ), jL x, jI xh, jL y] (m_s2 t 1 (m_s1 t 18 σ)) (m_does t 18 (m_oa t σ) x xh y (m_s2 t 1 (m_s1 t 18 σ))) none) : jm_M G yX25_oneStep cX25_oneStep 15 none 5 141 [jI (nI t)] σ (m_step t σ) none := by
  refine jj_intro "BranchCellsModel" (by decide) rfl (Nat.le_of_ble_eq_true rfl) ?_
  intro X hG hX hr hN hC hF
  subst hG
  refine w_os_p hX hr σ t 18 ht hb hpl hop (m_step t σ) (fun h => ?_) (fun h => ?_)
  · unfold m_step; rw [hop]; exact if_neg h
  · have e9 : m_step t σ = m_s5 t 18 (m_oa t σ) (m_s1 t 18 σ) := by unfold m_step; rw [hop]; exact if_pos h
    rw [e9]
    exact w_os_18 hX hr (m_s1 t 18 σ) t _ ht hp hD

theorem w_step_19 (G : jj_G) (σ : jm) (t : Nat) (ht : t < 85) (hb : jb (σ.1 13 t) 7) (hpl : jb (σ.1 14 t) 39) (hop : m_op t σ = 19) (hp : jb (σ.1 32 t) 12) (hD : ∀ x xh y, m_ok1 t 19 x xh y (m_s1 t 19 σ) → m_fault t 19 (m_oa t σ) x y (m_s2 t 1 (m_s1 t 19 σ)) ≤ 0 → jm_M G yX25_does cX25_does 10 none 4 112 [jI (nI t), jI 19, jI (m_oa t σ), jL x, jI xh, jL y] (m_s2 t 1 (m_s1 t 19 σ)) (m_does t 19 (m_oa t σ) x xh y (m_s2 t 1 (m_s1 t 19 σ))) none) : jm_M G yX25_oneStep cX25_oneStep 15 none 5 141 [jI (nI t)] σ (m_step t σ) none := by
  refine jj_intro "BranchCellsModel" (by decide) rfl (Nat.le_of_ble_eq_true rfl) ?_
  intro X hG hX hr hN hC hF
  subst hG
  refine w_os_p hX hr σ t 19 ht hb hpl hop (m_step t σ) (fun h => ?_) (fun h => ?_)
  · unfold m_step; rw [hop]; exact if_neg h
  · have e9 : m_step t σ = m_s5 t 19 (m_oa t σ) (m_s1 t 19 σ) := by unfold m_step; rw [hop]; exact if_pos h
    rw [e9]
    exact w_os_19 hX hr (m_s1 t 19 σ) t _ ht hp hD

theorem w_step_20 (G : jj_G) (σ : jm) (t : Nat) (ht : t < 85) (hb : jb (σ.1 13 t) 7) (hpl : jb (σ.1 14 t) 39) (hop : m_op t σ = 20) (hp : jb (σ.1 32 t) 12) (hD : ∀ x xh y, m_ok1 t 20 x xh y (m_s1 t 20 σ) → m_fault t 20 (m_oa t σ) x y (m_s2 t 1 (m_s1 t 20 σ)) ≤ 0 → jm_M G yX25_does cX25_does 10 none 4 112 [jI (nI t), jI 20, jI (m_oa t σ), jL x, jI xh, jL y] (m_s2 t 1 (m_s1 t 20 σ)) (m_does t 20 (m_oa t σ) x xh y (m_s2 t 1 (m_s1 t 20 σ))) none) : jm_M G yX25_oneStep cX25_oneStep 15 none 5 141 [jI (nI t)] σ (m_step t σ) none := by
  refine jj_intro "BranchCellsModel" (by decide) rfl (Nat.le_of_ble_eq_true rfl) ?_
  intro X hG hX hr hN hC hF
  subst hG
  refine w_os_p hX hr σ t 20 ht hb hpl hop (m_step t σ) (fun h => ?_) (fun h => ?_)
  · unfold m_step; rw [hop]; exact if_neg h
  · have e9 : m_step t σ = m_s5 t 20 (m_oa t σ) (m_s1 t 20 σ) := by unfold m_step; rw [hop]; exact if_pos h
    rw [e9]
    exact w_os_20 hX hr (m_s1 t 20 σ) t _ ht hp hD

theorem w_step_21 (G : jj_G) (σ : jm) (t : Nat) (ht : t < 85) (hb : jb (σ.1 13 t) 7) (hpl : jb (σ.1 14 t) 39) (hop : m_op t σ = 21) (hp : jb (σ.1 32 t) 12) (hD : ∀ x xh y, m_ok1 t 21 x xh y (m_s1 t 21 σ) → m_fault t 21 (m_oa t σ) x y (m_s2 t 1 (m_s1 t 21 σ)) ≤ 0 → jm_M G yX25_does cX25_does 10 none 4 112 [jI (nI t), jI 21, jI (m_oa t σ), jL x, jI xh, jL y] (m_s2 t 1 (m_s1 t 21 σ)) (m_does t 21 (m_oa t σ) x xh y (m_s2 t 1 (m_s1 t 21 σ))) none) : jm_M G yX25_oneStep cX25_oneStep 15 none 5 141 [jI (nI t)] σ (m_step t σ) none := by
  refine jj_intro "BranchCellsModel" (by decide) rfl (Nat.le_of_ble_eq_true rfl) ?_
  intro X hG hX hr hN hC hF
  subst hG
  refine w_os_p hX hr σ t 21 ht hb hpl hop (m_step t σ) (fun h => ?_) (fun h => ?_)
  · unfold m_step; rw [hop]; exact if_neg h
  · have e9 : m_step t σ = m_s5 t 21 (m_oa t σ) (m_s1 t 21 σ) := by unfold m_step; rw [hop]; exact if_pos h
    rw [e9]
    exact w_os_21 hX hr (m_s1 t 21 σ) t _ ht hp hD
