set_option maxRecDepth 100000
theorem m_sl_k {T9 : Nat} {v : Int64} {h : Int32} {k j : Nat} (hk : k ≠ 29) : ∀ (n c : Nat) (σ : jm), (m_sl T9 v h n c σ).1 k j = σ.1 k j := by
  intro n
  induction n with
  | zero => intro c σ; rfl
  | succ n ih =>
    intro c σ
    unfold m_sl
    rw [ih]
    exact jj_un (Or.inl hk)

theorem w_newTask_l {X : jj_X} (hX : jj_ok X cX25_newTask "BranchCellsModel" 10 2 45 0 0) {Q : State → Prop} (T9 : Nat) (ob fr h on ab : Int32) (v : Int64) (hT : T9 < 85) (hh : j01 h) (σe : jm) : ∀ (n k : Nat) (σ : jm), k + n = 8 → m_sl T9 v h n k σ = σe → jj_J X Q 0 0 239 [(0, jR (some 0)), (1, jI ob), (2, jI fr), (3, jL v), (5, jI h), (6, jI on), (7, jI ab), (8, jI (nI T9))] [] jm_T σe.1 σe.2 jm_R → jj_J X Q 0 0 175 [(0, jR (some 0)), (1, jI ob), (2, jI fr), (3, jL v), (5, jI h), (6, jI on), (7, jI ab), (8, jI (nI T9)), (9, jI (nI k))] [] jm_T σ.1 σ.2 jm_R := by
  intro n
  induction n with
  | zero =>
    intro k σ hk he K
    obtain rfl : k = 8 := by omega
    unfold m_sl at he
    subst he
    refine jj_iload (pc := 175) hX dX25_newTask_175 rfl ?_
    refine jj_bipush (pc := 177) hX (v := 8) dX25_newTask_177 (by decide) ?_
    refine jj_icmp_ge (pc := 179) hX 239 dX25_newTask_179 rfl (fun _ => ?_) (fun q => absurd (nI_le (Nat.le_refl 8) (by decide)) q)
    refine jj_ls [(0, jR (some 0)), (1, jI ob), (2, jI fr), (3, jL v), (5, jI h), (6, jI on), (7, jI ab), (8, jI (nI T9))] ⟨rfl, rfl, rfl, rfl, rfl, rfl, rfl, rfl, trivial⟩ ?_
    exact K
  | succ n ih =>
    intro k σ hk he K
    unfold m_sl at he
    have hlt : ¬ (8 : Int32) ≤ nI k := by rw [show (8 : Int32) = nI 8 from rfl]; exact nI_ge (by omega) (by decide)
    by_cases hk0 : k = 0
    · rw [if_pos hk0, if_pos hk0] at he
      have hz : nI k = 0 := by rw [hk0]; rfl
      rcases hh with rfl | rfl
      · refine jj_iload (pc := 175) hX dX25_newTask_175 rfl ?_
        refine jj_bipush (pc := 177) hX (v := 8) dX25_newTask_177 (by decide) ?_
        refine jj_icmp_ge (pc := 179) hX 239 dX25_newTask_179 rfl (fun q => absurd q hlt) (fun _ => ?_)
        refine jj_aload_n (pc := 182) hX dX25_newTask_182 rfl ?_
        refine jj_getR (pc := 183) hX (x := some 28) fl_X25_81_25 dX25_newTask_183 rfl rfl rfl ?_
        refine jj_bipush (pc := 186) hX (v := 8) dX25_newTask_186 (by decide) ?_
        refine jj_iload (pc := 188) hX dX25_newTask_188 rfl ?_
        refine jj_imul (pc := 190) hX dX25_newTask_190 ?_
        refine jj_iload (pc := 191) hX dX25_newTask_191 rfl ?_
        refine jj_iadd (pc := 193) hX dX25_newTask_193 ?_
        refine jj_iload (pc := 194) hX dX25_newTask_194 rfl ?_
        refine jj_if_ne (pc := 196) hX 203 dX25_newTask_196 rfl (fun q => absurd hz q) (fun _ => ?_)
        refine jj_lload_n (pc := 199) hX dX25_newTask_199 rfl ?_
        refine jj_goto (pc := 200) hX 204 dX25_newTask_200 rfl ?_
        refine jj_last (pc := 204) hX ((8 * T9) + k) dX25_newTask_204 rfl (ix_add (ix_mul rfl rfl) rfl) ⟨by omega, by omega⟩ ?_
        refine jj_aload_n (pc := 205) hX dX25_newTask_205 rfl ?_
        refine jj_getR (pc := 206) hX (x := some 29) fl_X25_84_25 dX25_newTask_206 rfl rfl rfl ?_
        refine jj_bipush (pc := 209) hX (v := 8) dX25_newTask_209 (by decide) ?_
        refine jj_iload (pc := 211) hX dX25_newTask_211 rfl ?_
        refine jj_imul (pc := 213) hX dX25_newTask_213 ?_
        refine jj_iload (pc := 214) hX dX25_newTask_214 rfl ?_
        refine jj_iadd (pc := 216) hX dX25_newTask_216 ?_
        refine jj_iload (pc := 217) hX dX25_newTask_217 rfl ?_
        refine jj_if_ne (pc := 219) hX 231 dX25_newTask_219 rfl (fun q => absurd hz q) (fun _ => ?_)
        refine jj_iload (pc := 222) hX dX25_newTask_222 rfl ?_
        refine jj_if_eq (pc := 224) hX 231 dX25_newTask_224 rfl (fun _ => ?_) (fun q => absurd (by decide) q)
        refine jj_iconst (pc := 231) hX (v := 0) dX25_newTask_231 (by decide) ?_
        refine jj_zast (pc := 232) hX ((8 * T9) + k) dX25_newTask_232 rfl (ix_add (ix_mul rfl rfl) rfl) ⟨by omega, by omega⟩ (by decide) ?_
        refine jj_iinc (pc := 233) hX (v := nI (k + 1)) dX25_newTask_233 rfl (ix_inc rfl) (by decide) ?_
        refine jj_goto (pc := 236) hX 175 dX25_newTask_236 rfl ?_
        refine jj_ls [(0, jR (some 0)), (1, jI ob), (2, jI fr), (3, jL v), (5, jI 0), (6, jI on), (7, jI ab), (8, jI (nI T9)), (9, jI (nI (k + 1)))] ⟨rfl, rfl, rfl, rfl, rfl, rfl, rfl, rfl, rfl, trivial⟩ ?_
        exact ih (k + 1) _ (by omega) he K
      · refine jj_iload (pc := 175) hX dX25_newTask_175 rfl ?_
        refine jj_bipush (pc := 177) hX (v := 8) dX25_newTask_177 (by decide) ?_
        refine jj_icmp_ge (pc := 179) hX 239 dX25_newTask_179 rfl (fun q => absurd q hlt) (fun _ => ?_)
        refine jj_aload_n (pc := 182) hX dX25_newTask_182 rfl ?_
        refine jj_getR (pc := 183) hX (x := some 28) fl_X25_81_25 dX25_newTask_183 rfl rfl rfl ?_
        refine jj_bipush (pc := 186) hX (v := 8) dX25_newTask_186 (by decide) ?_
        refine jj_iload (pc := 188) hX dX25_newTask_188 rfl ?_
        refine jj_imul (pc := 190) hX dX25_newTask_190 ?_
        refine jj_iload (pc := 191) hX dX25_newTask_191 rfl ?_
        refine jj_iadd (pc := 193) hX dX25_newTask_193 ?_
        refine jj_iload (pc := 194) hX dX25_newTask_194 rfl ?_
        refine jj_if_ne (pc := 196) hX 203 dX25_newTask_196 rfl (fun q => absurd hz q) (fun _ => ?_)
        refine jj_lload_n (pc := 199) hX dX25_newTask_199 rfl ?_
        refine jj_goto (pc := 200) hX 204 dX25_newTask_200 rfl ?_
        refine jj_last (pc := 204) hX ((8 * T9) + k) dX25_newTask_204 rfl (ix_add (ix_mul rfl rfl) rfl) ⟨by omega, by omega⟩ ?_
        refine jj_aload_n (pc := 205) hX dX25_newTask_205 rfl ?_
        refine jj_getR (pc := 206) hX (x := some 29) fl_X25_84_25 dX25_newTask_206 rfl rfl rfl ?_
        refine jj_bipush (pc := 209) hX (v := 8) dX25_newTask_209 (by decide) ?_
        refine jj_iload (pc := 211) hX dX25_newTask_211 rfl ?_
        refine jj_imul (pc := 213) hX dX25_newTask_213 ?_
        refine jj_iload (pc := 214) hX dX25_newTask_214 rfl ?_
        refine jj_iadd (pc := 216) hX dX25_newTask_216 ?_
        refine jj_iload (pc := 217) hX dX25_newTask_217 rfl ?_
        refine jj_if_ne (pc := 219) hX 231 dX25_newTask_219 rfl (fun q => absurd hz q) (fun _ => ?_)
        refine jj_iload (pc := 222) hX dX25_newTask_222 rfl ?_
        refine jj_if_eq (pc := 224) hX 231 dX25_newTask_224 rfl (fun q => absurd q (by decide)) (fun _ => ?_)
        refine jj_iconst (pc := 227) hX (v := 1) dX25_newTask_227 (by decide) ?_
        refine jj_goto (pc := 228) hX 232 dX25_newTask_228 rfl ?_
        refine jj_zast (pc := 232) hX ((8 * T9) + k) dX25_newTask_232 rfl (ix_add (ix_mul rfl rfl) rfl) ⟨by omega, by omega⟩ (by decide) ?_
        refine jj_iinc (pc := 233) hX (v := nI (k + 1)) dX25_newTask_233 rfl (ix_inc rfl) (by decide) ?_
        refine jj_goto (pc := 236) hX 175 dX25_newTask_236 rfl ?_
        refine jj_ls [(0, jR (some 0)), (1, jI ob), (2, jI fr), (3, jL v), (5, jI 1), (6, jI on), (7, jI ab), (8, jI (nI T9)), (9, jI (nI (k + 1)))] ⟨rfl, rfl, rfl, rfl, rfl, rfl, rfl, rfl, rfl, trivial⟩ ?_
        exact ih (k + 1) _ (by omega) he K
    · rw [if_neg hk0, if_neg hk0] at he
      have hz : ¬ nI k = 0 := nI_ne0 (by omega) (by omega)
      refine jj_iload (pc := 175) hX dX25_newTask_175 rfl ?_
      refine jj_bipush (pc := 177) hX (v := 8) dX25_newTask_177 (by decide) ?_
      refine jj_icmp_ge (pc := 179) hX 239 dX25_newTask_179 rfl (fun q => absurd q hlt) (fun _ => ?_)
      refine jj_aload_n (pc := 182) hX dX25_newTask_182 rfl ?_
      refine jj_getR (pc := 183) hX (x := some 28) fl_X25_81_25 dX25_newTask_183 rfl rfl rfl ?_
      refine jj_bipush (pc := 186) hX (v := 8) dX25_newTask_186 (by decide) ?_
      refine jj_iload (pc := 188) hX dX25_newTask_188 rfl ?_
      refine jj_imul (pc := 190) hX dX25_newTask_190 ?_
      refine jj_iload (pc := 191) hX dX25_newTask_191 rfl ?_
      refine jj_iadd (pc := 193) hX dX25_newTask_193 ?_
      refine jj_iload (pc := 194) hX dX25_newTask_194 rfl ?_
      refine jj_if_ne (pc := 196) hX 203 dX25_newTask_196 rfl (fun _ => ?_) (fun q => absurd q hz)
      refine jj_lconst (pc := 203) hX (v := 0) dX25_newTask_203 (by decide) ?_
      refine jj_last (pc := 204) hX ((8 * T9) + k) dX25_newTask_204 rfl (ix_add (ix_mul rfl rfl) rfl) ⟨by omega, by omega⟩ ?_
      refine jj_aload_n (pc := 205) hX dX25_newTask_205 rfl ?_
      refine jj_getR (pc := 206) hX (x := some 29) fl_X25_84_25 dX25_newTask_206 rfl rfl rfl ?_
      refine jj_bipush (pc := 209) hX (v := 8) dX25_newTask_209 (by decide) ?_
      refine jj_iload (pc := 211) hX dX25_newTask_211 rfl ?_
      refine jj_imul (pc := 213) hX dX25_newTask_213 ?_
      refine jj_iload (pc := 214) hX dX25_newTask_214 rfl ?_
      refine jj_iadd (pc := 216) hX dX25_newTask_216 ?_
      refine jj_iload (pc := 217) hX dX25_newTask_217 rfl ?_
      refine jj_if_ne (pc := 219) hX 231 dX25_newTask_219 rfl (fun _ => ?_) (fun q => absurd q hz)
      refine jj_iconst (pc := 231) hX (v := 0) dX25_newTask_231 (by decide) ?_
      refine jj_zast (pc := 232) hX ((8 * T9) + k) dX25_newTask_232 rfl (ix_add (ix_mul rfl rfl) rfl) ⟨by omega, by omega⟩ (by decide) ?_
      refine jj_iinc (pc := 233) hX (v := nI (k + 1)) dX25_newTask_233 rfl (ix_inc rfl) (by decide) ?_
      refine jj_goto (pc := 236) hX 175 dX25_newTask_236 rfl ?_
      refine jj_ls [(0, jR (some 0)), (1, jI ob), (2, jI fr), (3, jL v), (5, jI h), (6, jI on), (7, jI ab), (8, jI (nI T9)), (9, jI (nI (k + 1)))] ⟨rfl, rfl, rfl, rfl, rfl, rfl, rfl, rfl, rfl, trivial⟩ ?_
      exact ih (k + 1) _ (by omega) he K

theorem w_newTask (G : jj_G) (σ : jm) (ob fr : Int32) (v : Int64) (h on ab : Int32) (hT : jb (σ.1 0 11) 84) (hob : jb ob 7) (hf : m_ch (nv (σ.1 0 11)) fr) (hh : j01 h) : jm_M G yX25_newTask cX25_newTask 10 none 2 45 [jI ob, jI fr, jL v, jI h, jI on, jI ab] σ (m_nt ob fr v h on ab σ) none := by
  refine jj_intro "BranchCellsModel" (by decide) rfl (Nat.le_of_ble_eq_true rfl) ?_
  intro X hG hX hr hN hC hF
  subst hG
  have hT2 := hT.2
  unfold m_nt
  by_cases hf4 : fr = -4
  · rw [if_pos hf4, if_pos hf4]
    refine jj_aload_n (pc := 0) hX dX25_newTask_0 rfl ?_
    refine jj_getI (pc := 1) hX fl_X25_160_25 dX25_newTask_1 rfl rfl ?_
    refine jj_istore (pc := 4) hX dX25_newTask_4 (by decide) ?_
    refine jj_aload_n (pc := 6) hX dX25_newTask_6 rfl ?_
    refine jj_dup (pc := 7) hX dX25_newTask_7 rfl ?_
    refine jj_getI (pc := 8) hX fl_X25_160_25 dX25_newTask_8 rfl rfl ?_
    refine jj_iconst (pc := 11) hX (v := 1) dX25_newTask_11 (by decide) ?_
    refine jj_iadd (pc := 12) hX dX25_newTask_12 ?_
    refine jj_putI (pc := 13) hX fl_X25_160_25 dX25_newTask_13 rfl rfl rfl ?_
    refine jj_aload_n (pc := 16) hX dX25_newTask_16 rfl ?_
    refine jj_getR (pc := 17) hX (x := some 13) fl_X25_35_25 dX25_newTask_17 rfl rfl rfl ?_
    refine jj_iload (pc := 20) hX dX25_newTask_20 rfl ?_
    refine jj_iload_n (pc := 22) hX dX25_newTask_22 rfl ?_
    refine jj_iast (pc := 23) hX (nv (σ.1 0 11)) dX25_newTask_23 rfl hT.1 ⟨by omega, by omega⟩ ?_
    refine jj_aload_n (pc := 24) hX dX25_newTask_24 rfl ?_
    refine jj_getR (pc := 25) hX (x := some 14) fl_X25_38_25 dX25_newTask_25 rfl rfl rfl ?_
    refine jj_iload (pc := 28) hX dX25_newTask_28 rfl ?_
    refine jj_iconst (pc := 30) hX (v := 0) dX25_newTask_30 (by decide) ?_
    refine jj_iast (pc := 31) hX (nv (σ.1 0 11)) dX25_newTask_31 rfl hT.1 ⟨by omega, by omega⟩ ?_
    refine jj_aload_n (pc := 32) hX dX25_newTask_32 rfl ?_
    refine jj_getR (pc := 33) hX (x := some 15) fl_X25_41_25 dX25_newTask_33 rfl rfl rfl ?_
    refine jj_iload (pc := 36) hX dX25_newTask_36 rfl ?_
    refine jj_iconst (pc := 38) hX (v := 0) dX25_newTask_38 (by decide) ?_
    refine jj_iast (pc := 39) hX (nv (σ.1 0 11)) dX25_newTask_39 rfl hT.1 ⟨by omega, by omega⟩ ?_
    refine jj_aload_n (pc := 40) hX dX25_newTask_40 rfl ?_
    refine jj_getR (pc := 41) hX (x := some 16) fl_X25_44_25 dX25_newTask_41 rfl rfl rfl ?_
    refine jj_iload (pc := 44) hX dX25_newTask_44 rfl ?_
    refine jj_iconst (pc := 46) hX (v := 0) dX25_newTask_46 (by decide) ?_
    refine jj_iast (pc := 47) hX (nv (σ.1 0 11)) dX25_newTask_47 rfl hT.1 ⟨by omega, by omega⟩ ?_
    refine jj_aload_n (pc := 48) hX dX25_newTask_48 rfl ?_
    refine jj_getR (pc := 49) hX (x := some 17) fl_X25_47_25 dX25_newTask_49 rfl rfl rfl ?_
    refine jj_iload (pc := 52) hX dX25_newTask_52 rfl ?_
    refine jj_iconst (pc := 54) hX (v := 0) dX25_newTask_54 (by decide) ?_
    refine jj_iast (pc := 55) hX (nv (σ.1 0 11)) dX25_newTask_55 rfl hT.1 ⟨by omega, by omega⟩ ?_
    refine jj_aload_n (pc := 56) hX dX25_newTask_56 rfl ?_
    refine jj_getR (pc := 57) hX (x := some 18) fl_X25_50_25 dX25_newTask_57 rfl rfl rfl ?_
    refine jj_iload (pc := 60) hX dX25_newTask_60 rfl ?_
    refine jj_iconst (pc := 62) hX (v := 0) dX25_newTask_62 (by decide) ?_
    refine jj_iast (pc := 63) hX (nv (σ.1 0 11)) dX25_newTask_63 rfl hT.1 ⟨by omega, by omega⟩ ?_
    refine jj_aload_n (pc := 64) hX dX25_newTask_64 rfl ?_
    refine jj_getR (pc := 65) hX (x := some 19) fl_X25_53_25 dX25_newTask_65 rfl rfl rfl ?_
    refine jj_iload (pc := 68) hX dX25_newTask_68 rfl ?_
    refine jj_iload_n (pc := 70) hX dX25_newTask_70 rfl ?_
    refine jj_bipush (pc := 71) hX (v := (-4)) dX25_newTask_71 (by decide) ?_
    refine jj_icmp_ne (pc := 73) hX 80 dX25_newTask_73 rfl (fun q => absurd hf4 q) (fun _ => ?_)
    refine jj_iconst (pc := 76) hX (v := 0) dX25_newTask_76 (by decide) ?_
    refine jj_goto (pc := 77) hX 88 dX25_newTask_77 rfl ?_
    refine jj_iast (pc := 88) hX (nv (σ.1 0 11)) dX25_newTask_88 rfl hT.1 ⟨by omega, by omega⟩ ?_
    refine jj_aload_n (pc := 89) hX dX25_newTask_89 rfl ?_
    refine jj_getR (pc := 90) hX (x := some 20) fl_X25_56_25 dX25_newTask_90 rfl rfl rfl ?_
    refine jj_iload (pc := 93) hX dX25_newTask_93 rfl ?_
    refine jj_iload_n (pc := 95) hX dX25_newTask_95 rfl ?_
    refine jj_iast (pc := 96) hX (nv (σ.1 0 11)) dX25_newTask_96 rfl hT.1 ⟨by omega, by omega⟩ ?_
    refine jj_aload_n (pc := 97) hX dX25_newTask_97 rfl ?_
    refine jj_getR (pc := 98) hX (x := some 21) fl_X25_59_25 dX25_newTask_98 rfl rfl rfl ?_
    refine jj_iload (pc := 101) hX dX25_newTask_101 rfl ?_
    refine jj_iload_n (pc := 103) hX dX25_newTask_103 rfl ?_
    refine jj_bipush (pc := 104) hX (v := (-4)) dX25_newTask_104 (by decide) ?_
    refine jj_icmp_ne (pc := 106) hX 113 dX25_newTask_106 rfl (fun q => absurd hf4 q) (fun _ => ?_)
    refine jj_iconst (pc := 109) hX (v := 0) dX25_newTask_109 (by decide) ?_
    refine jj_goto (pc := 110) hX 119 dX25_newTask_110 rfl ?_
    refine jj_iast (pc := 119) hX (nv (σ.1 0 11)) dX25_newTask_119 rfl hT.1 ⟨by omega, by omega⟩ ?_
    refine jj_aload_n (pc := 120) hX dX25_newTask_120 rfl ?_
    refine jj_getR (pc := 121) hX (x := some 22) fl_X25_62_25 dX25_newTask_121 rfl rfl rfl ?_
    refine jj_iload (pc := 124) hX dX25_newTask_124 rfl ?_
    refine jj_iload (pc := 126) hX dX25_newTask_126 rfl ?_
    refine jj_iast (pc := 128) hX (nv (σ.1 0 11)) dX25_newTask_128 rfl hT.1 ⟨by omega, by omega⟩ ?_
    refine jj_aload_n (pc := 129) hX dX25_newTask_129 rfl ?_
    refine jj_getR (pc := 130) hX (x := some 23) fl_X25_65_25 dX25_newTask_130 rfl rfl rfl ?_
    refine jj_iload (pc := 133) hX dX25_newTask_133 rfl ?_
    refine jj_iload (pc := 135) hX dX25_newTask_135 rfl ?_
    refine jj_iast (pc := 137) hX (nv (σ.1 0 11)) dX25_newTask_137 rfl hT.1 ⟨by omega, by omega⟩ ?_
    refine jj_aload_n (pc := 138) hX dX25_newTask_138 rfl ?_
    refine jj_getR (pc := 139) hX (x := some 24) fl_X25_68_25 dX25_newTask_139 rfl rfl rfl ?_
    refine jj_iload (pc := 142) hX dX25_newTask_142 rfl ?_
    refine jj_ldc2 (pc := 144) hX (v := 17) q1642 dX25_newTask_144 ?_
    refine jj_last (pc := 147) hX (nv (σ.1 0 11)) dX25_newTask_147 rfl hT.1 ⟨by omega, by omega⟩ ?_
    refine jj_aload_n (pc := 148) hX dX25_newTask_148 rfl ?_
    refine jj_getR (pc := 149) hX (x := some 25) fl_X25_71_25 dX25_newTask_149 rfl rfl rfl ?_
    refine jj_iload (pc := 152) hX dX25_newTask_152 rfl ?_
    refine jj_iconst (pc := 154) hX (v := 0) dX25_newTask_154 (by decide) ?_
    refine jj_zast (pc := 155) hX (nv (σ.1 0 11)) dX25_newTask_155 rfl hT.1 ⟨by omega, by omega⟩ (by decide) ?_
    refine jj_aload_n (pc := 156) hX dX25_newTask_156 rfl ?_
    refine jj_getR (pc := 157) hX (x := some 26) fl_X25_75_25 dX25_newTask_157 rfl rfl rfl ?_
    refine jj_iload (pc := 160) hX dX25_newTask_160 rfl ?_
    refine jj_lconst (pc := 162) hX (v := 0) dX25_newTask_162 (by decide) ?_
    refine jj_last (pc := 163) hX (nv (σ.1 0 11)) dX25_newTask_163 rfl hT.1 ⟨by omega, by omega⟩ ?_
    refine jj_aload_n (pc := 164) hX dX25_newTask_164 rfl ?_
    refine jj_getR (pc := 165) hX (x := some 27) fl_X25_78_25 dX25_newTask_165 rfl rfl rfl ?_
    refine jj_iload (pc := 168) hX dX25_newTask_168 rfl ?_
    refine jj_iconst (pc := 170) hX (v := 0) dX25_newTask_170 (by decide) ?_
    refine jj_zast (pc := 171) hX (nv (σ.1 0 11)) dX25_newTask_171 rfl hT.1 ⟨by omega, by omega⟩ (by decide) ?_
    refine jj_iconst (pc := 172) hX (v := 0) dX25_newTask_172 (by decide) ?_
    refine jj_istore (pc := 173) hX dX25_newTask_173 (by decide) ?_
    refine jj_ls [(0, jR (some 0)), (1, jI ob), (2, jI fr), (3, jL v), (5, jI h), (6, jI on), (7, jI ab), (8, jI (nI (nv (σ.1 0 11)))), (9, jI (nI 0))] ⟨rfl, rfl, rfl, rfl, rfl, rfl, rfl, (congrArg (fun z => some (jI z)) hT.1), rfl, trivial⟩ ?_
    refine w_newTask_l hX (nv (σ.1 0 11)) ob fr h on ab v (by omega) hh _ 8 0 (m_n2 (nv (σ.1 0 11)) fr (0) (0) on ab (m_n1 (nv (σ.1 0 11)) ob σ)) rfl rfl ?_
    refine jj_aload_n (pc := 239) hX dX25_newTask_239 rfl ?_
    refine jj_getR (pc := 240) hX (x := some 32) fl_X25_93_25 dX25_newTask_240 rfl rfl rfl ?_
    refine jj_iload (pc := 243) hX dX25_newTask_243 rfl ?_
    refine jj_iconst (pc := 245) hX (v := 0) dX25_newTask_245 (by decide) ?_
    refine jj_iast (pc := 246) hX (nv (σ.1 0 11)) dX25_newTask_246 rfl rfl ⟨by omega, by omega⟩ ?_
    refine jj_aload_n (pc := 247) hX dX25_newTask_247 rfl ?_
    refine jj_getR (pc := 248) hX (x := some 34) fl_X25_99_25 dX25_newTask_248 rfl rfl rfl ?_
    refine jj_iload (pc := 251) hX dX25_newTask_251 rfl ?_
    refine jj_iconst (pc := 253) hX (v := 0) dX25_newTask_253 (by decide) ?_
    refine jj_iast (pc := 254) hX (nv (σ.1 0 11)) dX25_newTask_254 rfl rfl ⟨by omega, by omega⟩ ?_
    refine jj_aload_n (pc := 255) hX dX25_newTask_255 rfl ?_
    refine jj_iload (pc := 256) hX dX25_newTask_256 rfl ?_
    have hbl : jb ((m_u (m_u (m_sl (nv (σ.1 0 11)) v h 8 0 (m_n2 (nv (σ.1 0 11)) fr (0) (0) on ab (m_n1 (nv (σ.1 0 11)) ob σ))) 32 (nv (σ.1 0 11)) 0) 34 (nv (σ.1 0 11)) 0).1 13 (nv (σ.1 0 11))) 7 := by
      have e : (m_u (m_u (m_sl (nv (σ.1 0 11)) v h 8 0 (m_n2 (nv (σ.1 0 11)) fr (0) (0) on ab (m_n1 (nv (σ.1 0 11)) ob σ))) 32 (nv (σ.1 0 11)) 0) 34 (nv (σ.1 0 11)) 0).1 13 (nv (σ.1 0 11)) = ob := by
        rw [m_u_1, jj_un (Or.inl (by decide)), m_u_1, jj_un (Or.inl (by decide)), m_sl_k (by decide)]
        unfold m_n2 m_n1
        simp only [m_u_1, m_v_1]
        simp [jj_u]
      rw [e]; exact hob
    refine jj_callV (pc := 258) hX (w_endsBehind X.1 (m_u (m_u (m_sl (nv (σ.1 0 11)) v h 8 0 (m_n2 (nv (σ.1 0 11)) fr (0) (0) on ab (m_n1 (nv (σ.1 0 11)) ob σ))) 32 (nv (σ.1 0 11)) 0) 34 (nv (σ.1 0 11)) 0) (nv (σ.1 0 11)) (by omega) hbl) dX25_newTask_258 (lw_V q1643 q1645 qs28 q78 q1646) rfl ⟨by decide +kernel, by decide +kernel, by show _ = some (1 : Nat); decide +kernel⟩ ⟨Nat.le_of_ble_eq_true rfl, Nat.le_of_ble_eq_true rfl, Nat.le_of_ble_eq_true rfl, Nat.le_of_ble_eq_true rfl, Nat.le_of_ble_eq_true rfl⟩ (fun q => by cases q) rfl jc_25 rfl (jj_keq ?_) jj_kno
    exact jj_vret (pc := 261) hX dX25_newTask_261 hr ⟨Nat.le_refl _, Nat.le_refl _⟩ (⟨rfl, rfl, rfl, rfl, rfl⟩)
  · rw [if_neg hf4, if_neg hf4]
    obtain ⟨hf1, hf2⟩ := hf.resolve_left hf4
    refine jj_aload_n (pc := 0) hX dX25_newTask_0 rfl ?_
    refine jj_getI (pc := 1) hX fl_X25_160_25 dX25_newTask_1 rfl rfl ?_
    refine jj_istore (pc := 4) hX dX25_newTask_4 (by decide) ?_
    refine jj_aload_n (pc := 6) hX dX25_newTask_6 rfl ?_
    refine jj_dup (pc := 7) hX dX25_newTask_7 rfl ?_
    refine jj_getI (pc := 8) hX fl_X25_160_25 dX25_newTask_8 rfl rfl ?_
    refine jj_iconst (pc := 11) hX (v := 1) dX25_newTask_11 (by decide) ?_
    refine jj_iadd (pc := 12) hX dX25_newTask_12 ?_
    refine jj_putI (pc := 13) hX fl_X25_160_25 dX25_newTask_13 rfl rfl rfl ?_
    refine jj_aload_n (pc := 16) hX dX25_newTask_16 rfl ?_
    refine jj_getR (pc := 17) hX (x := some 13) fl_X25_35_25 dX25_newTask_17 rfl rfl rfl ?_
    refine jj_iload (pc := 20) hX dX25_newTask_20 rfl ?_
    refine jj_iload_n (pc := 22) hX dX25_newTask_22 rfl ?_
    refine jj_iast (pc := 23) hX (nv (σ.1 0 11)) dX25_newTask_23 rfl hT.1 ⟨by omega, by omega⟩ ?_
    refine jj_aload_n (pc := 24) hX dX25_newTask_24 rfl ?_
    refine jj_getR (pc := 25) hX (x := some 14) fl_X25_38_25 dX25_newTask_25 rfl rfl rfl ?_
    refine jj_iload (pc := 28) hX dX25_newTask_28 rfl ?_
    refine jj_iconst (pc := 30) hX (v := 0) dX25_newTask_30 (by decide) ?_
    refine jj_iast (pc := 31) hX (nv (σ.1 0 11)) dX25_newTask_31 rfl hT.1 ⟨by omega, by omega⟩ ?_
    refine jj_aload_n (pc := 32) hX dX25_newTask_32 rfl ?_
    refine jj_getR (pc := 33) hX (x := some 15) fl_X25_41_25 dX25_newTask_33 rfl rfl rfl ?_
    refine jj_iload (pc := 36) hX dX25_newTask_36 rfl ?_
    refine jj_iconst (pc := 38) hX (v := 0) dX25_newTask_38 (by decide) ?_
    refine jj_iast (pc := 39) hX (nv (σ.1 0 11)) dX25_newTask_39 rfl hT.1 ⟨by omega, by omega⟩ ?_
    refine jj_aload_n (pc := 40) hX dX25_newTask_40 rfl ?_
    refine jj_getR (pc := 41) hX (x := some 16) fl_X25_44_25 dX25_newTask_41 rfl rfl rfl ?_
    refine jj_iload (pc := 44) hX dX25_newTask_44 rfl ?_
    refine jj_iconst (pc := 46) hX (v := 0) dX25_newTask_46 (by decide) ?_
    refine jj_iast (pc := 47) hX (nv (σ.1 0 11)) dX25_newTask_47 rfl hT.1 ⟨by omega, by omega⟩ ?_
    refine jj_aload_n (pc := 48) hX dX25_newTask_48 rfl ?_
    refine jj_getR (pc := 49) hX (x := some 17) fl_X25_47_25 dX25_newTask_49 rfl rfl rfl ?_
    refine jj_iload (pc := 52) hX dX25_newTask_52 rfl ?_
    refine jj_iconst (pc := 54) hX (v := 0) dX25_newTask_54 (by decide) ?_
    refine jj_iast (pc := 55) hX (nv (σ.1 0 11)) dX25_newTask_55 rfl hT.1 ⟨by omega, by omega⟩ ?_
    refine jj_aload_n (pc := 56) hX dX25_newTask_56 rfl ?_
    refine jj_getR (pc := 57) hX (x := some 18) fl_X25_50_25 dX25_newTask_57 rfl rfl rfl ?_
    refine jj_iload (pc := 60) hX dX25_newTask_60 rfl ?_
    refine jj_iconst (pc := 62) hX (v := 0) dX25_newTask_62 (by decide) ?_
    refine jj_iast (pc := 63) hX (nv (σ.1 0 11)) dX25_newTask_63 rfl hT.1 ⟨by omega, by omega⟩ ?_
    refine jj_aload_n (pc := 64) hX dX25_newTask_64 rfl ?_
    refine jj_getR (pc := 65) hX (x := some 19) fl_X25_53_25 dX25_newTask_65 rfl rfl rfl ?_
    refine jj_iload (pc := 68) hX dX25_newTask_68 rfl ?_
    refine jj_iload_n (pc := 70) hX dX25_newTask_70 rfl ?_
    refine jj_bipush (pc := 71) hX (v := (-4)) dX25_newTask_71 (by decide) ?_
    refine jj_icmp_ne (pc := 73) hX 80 dX25_newTask_73 rfl (fun _ => ?_) (fun q => absurd q hf4)
    refine jj_aload_n (pc := 80) hX dX25_newTask_80 rfl ?_
    refine jj_getR (pc := 81) hX (x := some 19) fl_X25_53_25 dX25_newTask_81 rfl rfl rfl ?_
    refine jj_iload_n (pc := 84) hX dX25_newTask_84 rfl ?_
    refine jj_iald (pc := 85) hX (nv fr) dX25_newTask_85 rfl rfl hf1 ⟨by omega, by omega⟩ ?_
    refine jj_iconst (pc := 86) hX (v := 1) dX25_newTask_86 (by decide) ?_
    refine jj_iadd (pc := 87) hX dX25_newTask_87 ?_
    refine jj_iast (pc := 88) hX (nv (σ.1 0 11)) dX25_newTask_88 rfl hT.1 ⟨by omega, by omega⟩ ?_
    refine jj_aload_n (pc := 89) hX dX25_newTask_89 rfl ?_
    refine jj_getR (pc := 90) hX (x := some 20) fl_X25_56_25 dX25_newTask_90 rfl rfl rfl ?_
    refine jj_iload (pc := 93) hX dX25_newTask_93 rfl ?_
    refine jj_iload_n (pc := 95) hX dX25_newTask_95 rfl ?_
    refine jj_iast (pc := 96) hX (nv (σ.1 0 11)) dX25_newTask_96 rfl hT.1 ⟨by omega, by omega⟩ ?_
    refine jj_aload_n (pc := 97) hX dX25_newTask_97 rfl ?_
    refine jj_getR (pc := 98) hX (x := some 21) fl_X25_59_25 dX25_newTask_98 rfl rfl rfl ?_
    refine jj_iload (pc := 101) hX dX25_newTask_101 rfl ?_
    refine jj_iload_n (pc := 103) hX dX25_newTask_103 rfl ?_
    refine jj_bipush (pc := 104) hX (v := (-4)) dX25_newTask_104 (by decide) ?_
    refine jj_icmp_ne (pc := 106) hX 113 dX25_newTask_106 rfl (fun _ => ?_) (fun q => absurd q hf4)
    refine jj_aload_n (pc := 113) hX dX25_newTask_113 rfl ?_
    refine jj_getR (pc := 114) hX (x := some 18) fl_X25_50_25 dX25_newTask_114 rfl rfl rfl ?_
    refine jj_iload_n (pc := 117) hX dX25_newTask_117 rfl ?_
    refine jj_iald (pc := 118) hX (nv fr) dX25_newTask_118 rfl rfl hf1 ⟨by omega, by omega⟩ ?_
    refine jj_top (σ.1 18 (nv fr)) (by simp [jj_u, show ¬ nv fr = nv (σ.1 0 11) by omega]) ?_
    refine jj_iast (pc := 119) hX (nv (σ.1 0 11)) dX25_newTask_119 rfl hT.1 ⟨by omega, by omega⟩ ?_
    refine jj_aload_n (pc := 120) hX dX25_newTask_120 rfl ?_
    refine jj_getR (pc := 121) hX (x := some 22) fl_X25_62_25 dX25_newTask_121 rfl rfl rfl ?_
    refine jj_iload (pc := 124) hX dX25_newTask_124 rfl ?_
    refine jj_iload (pc := 126) hX dX25_newTask_126 rfl ?_
    refine jj_iast (pc := 128) hX (nv (σ.1 0 11)) dX25_newTask_128 rfl hT.1 ⟨by omega, by omega⟩ ?_
    refine jj_aload_n (pc := 129) hX dX25_newTask_129 rfl ?_
    refine jj_getR (pc := 130) hX (x := some 23) fl_X25_65_25 dX25_newTask_130 rfl rfl rfl ?_
    refine jj_iload (pc := 133) hX dX25_newTask_133 rfl ?_
    refine jj_iload (pc := 135) hX dX25_newTask_135 rfl ?_
    refine jj_iast (pc := 137) hX (nv (σ.1 0 11)) dX25_newTask_137 rfl hT.1 ⟨by omega, by omega⟩ ?_
    refine jj_aload_n (pc := 138) hX dX25_newTask_138 rfl ?_
    refine jj_getR (pc := 139) hX (x := some 24) fl_X25_68_25 dX25_newTask_139 rfl rfl rfl ?_
    refine jj_iload (pc := 142) hX dX25_newTask_142 rfl ?_
    refine jj_ldc2 (pc := 144) hX (v := 17) q1642 dX25_newTask_144 ?_
    refine jj_last (pc := 147) hX (nv (σ.1 0 11)) dX25_newTask_147 rfl hT.1 ⟨by omega, by omega⟩ ?_
    refine jj_aload_n (pc := 148) hX dX25_newTask_148 rfl ?_
    refine jj_getR (pc := 149) hX (x := some 25) fl_X25_71_25 dX25_newTask_149 rfl rfl rfl ?_
    refine jj_iload (pc := 152) hX dX25_newTask_152 rfl ?_
    refine jj_iconst (pc := 154) hX (v := 0) dX25_newTask_154 (by decide) ?_
    refine jj_zast (pc := 155) hX (nv (σ.1 0 11)) dX25_newTask_155 rfl hT.1 ⟨by omega, by omega⟩ (by decide) ?_
    refine jj_aload_n (pc := 156) hX dX25_newTask_156 rfl ?_
    refine jj_getR (pc := 157) hX (x := some 26) fl_X25_75_25 dX25_newTask_157 rfl rfl rfl ?_
    refine jj_iload (pc := 160) hX dX25_newTask_160 rfl ?_
    refine jj_lconst (pc := 162) hX (v := 0) dX25_newTask_162 (by decide) ?_
    refine jj_last (pc := 163) hX (nv (σ.1 0 11)) dX25_newTask_163 rfl hT.1 ⟨by omega, by omega⟩ ?_
    refine jj_aload_n (pc := 164) hX dX25_newTask_164 rfl ?_
    refine jj_getR (pc := 165) hX (x := some 27) fl_X25_78_25 dX25_newTask_165 rfl rfl rfl ?_
    refine jj_iload (pc := 168) hX dX25_newTask_168 rfl ?_
    refine jj_iconst (pc := 170) hX (v := 0) dX25_newTask_170 (by decide) ?_
    refine jj_zast (pc := 171) hX (nv (σ.1 0 11)) dX25_newTask_171 rfl hT.1 ⟨by omega, by omega⟩ (by decide) ?_
    refine jj_iconst (pc := 172) hX (v := 0) dX25_newTask_172 (by decide) ?_
    refine jj_istore (pc := 173) hX dX25_newTask_173 (by decide) ?_
    refine jj_ls [(0, jR (some 0)), (1, jI ob), (2, jI fr), (3, jL v), (5, jI h), (6, jI on), (7, jI ab), (8, jI (nI (nv (σ.1 0 11)))), (9, jI (nI 0))] ⟨rfl, rfl, rfl, rfl, rfl, rfl, rfl, (congrArg (fun z => some (jI z)) hT.1), rfl, trivial⟩ ?_
    refine w_newTask_l hX (nv (σ.1 0 11)) ob fr h on ab v (by omega) hh _ 8 0 (m_n2 (nv (σ.1 0 11)) fr (σ.1 19 (nv fr) + 1) (σ.1 18 (nv fr)) on ab (m_n1 (nv (σ.1 0 11)) ob σ)) rfl rfl ?_
    refine jj_aload_n (pc := 239) hX dX25_newTask_239 rfl ?_
    refine jj_getR (pc := 240) hX (x := some 32) fl_X25_93_25 dX25_newTask_240 rfl rfl rfl ?_
    refine jj_iload (pc := 243) hX dX25_newTask_243 rfl ?_
    refine jj_iconst (pc := 245) hX (v := 0) dX25_newTask_245 (by decide) ?_
    refine jj_iast (pc := 246) hX (nv (σ.1 0 11)) dX25_newTask_246 rfl rfl ⟨by omega, by omega⟩ ?_
    refine jj_aload_n (pc := 247) hX dX25_newTask_247 rfl ?_
    refine jj_getR (pc := 248) hX (x := some 34) fl_X25_99_25 dX25_newTask_248 rfl rfl rfl ?_
    refine jj_iload (pc := 251) hX dX25_newTask_251 rfl ?_
    refine jj_iconst (pc := 253) hX (v := 0) dX25_newTask_253 (by decide) ?_
    refine jj_iast (pc := 254) hX (nv (σ.1 0 11)) dX25_newTask_254 rfl rfl ⟨by omega, by omega⟩ ?_
    refine jj_aload_n (pc := 255) hX dX25_newTask_255 rfl ?_
    refine jj_iload (pc := 256) hX dX25_newTask_256 rfl ?_
    have hbl : jb ((m_u (m_u (m_sl (nv (σ.1 0 11)) v h 8 0 (m_n2 (nv (σ.1 0 11)) fr (σ.1 19 (nv fr) + 1) (σ.1 18 (nv fr)) on ab (m_n1 (nv (σ.1 0 11)) ob σ))) 32 (nv (σ.1 0 11)) 0) 34 (nv (σ.1 0 11)) 0).1 13 (nv (σ.1 0 11))) 7 := by
      have e : (m_u (m_u (m_sl (nv (σ.1 0 11)) v h 8 0 (m_n2 (nv (σ.1 0 11)) fr (σ.1 19 (nv fr) + 1) (σ.1 18 (nv fr)) on ab (m_n1 (nv (σ.1 0 11)) ob σ))) 32 (nv (σ.1 0 11)) 0) 34 (nv (σ.1 0 11)) 0).1 13 (nv (σ.1 0 11)) = ob := by
        rw [m_u_1, jj_un (Or.inl (by decide)), m_u_1, jj_un (Or.inl (by decide)), m_sl_k (by decide)]
        unfold m_n2 m_n1
        simp only [m_u_1, m_v_1]
        simp [jj_u]
      rw [e]; exact hob
    refine jj_callV (pc := 258) hX (w_endsBehind X.1 (m_u (m_u (m_sl (nv (σ.1 0 11)) v h 8 0 (m_n2 (nv (σ.1 0 11)) fr (σ.1 19 (nv fr) + 1) (σ.1 18 (nv fr)) on ab (m_n1 (nv (σ.1 0 11)) ob σ))) 32 (nv (σ.1 0 11)) 0) 34 (nv (σ.1 0 11)) 0) (nv (σ.1 0 11)) (by omega) hbl) dX25_newTask_258 (lw_V q1643 q1645 qs28 q78 q1646) rfl ⟨by decide +kernel, by decide +kernel, by show _ = some (1 : Nat); decide +kernel⟩ ⟨Nat.le_of_ble_eq_true rfl, Nat.le_of_ble_eq_true rfl, Nat.le_of_ble_eq_true rfl, Nat.le_of_ble_eq_true rfl, Nat.le_of_ble_eq_true rfl⟩ (fun q => by cases q) rfl jc_25 rfl (jj_keq ?_) jj_kno
    exact jj_vret (pc := 261) hX dX25_newTask_261 hr ⟨Nat.le_refl _, Nat.le_refl _⟩ (⟨rfl, rfl, rfl, rfl, rfl⟩)

theorem w_waitsFor (G : jj_G) (σ : jm) (t : Nat) (ht : t < 85) (hb : jb (σ.1 13 t) 7) (hpl : σ.1 15 t = 0 → jb (σ.1 14 t) 39) (hp : jb (σ.1 32 t) 12) (hh : ¬ σ.1 32 t = 0 → ¬ σ.1 31 (12 * t + nv (σ.1 32 t) - 1) = 0 → jb (σ.2 30 (12 * t + nv (σ.1 32 t) - 1)).toInt32 84) : jm_M G yX25_waitsFor cX25_waitsFor 4 (some .int) 0 0 [jI (nI t)] σ σ (some (jI (m_waits t σ))) := by
  refine jj_intro "BranchCellsModel" (by decide) rfl (Nat.le_of_ble_eq_true rfl) ?_
  intro X hG hX hr hN hC hF
  subst hG
  have hb2 := hb.2
  have hp2 := hp.2
  refine jj_aload_n (pc := 0) hX dX25_waitsFor_0 rfl ?_
  refine jj_getR (pc := 1) hX (x := some 15) fl_X25_41_25 dX25_waitsFor_1 rfl rfl rfl ?_
  refine jj_iload_n (pc := 4) hX dX25_waitsFor_4 rfl ?_
  refine jj_iald (pc := 5) hX t dX25_waitsFor_5 rfl rfl rfl ⟨by omega, by omega⟩ ?_
  refine jj_if_ne (pc := 6) hX 56 dX25_waitsFor_6 rfl (fun h6 => ?_) (fun h6 => ?_)
  · refine jj_bipush (pc := 56) hX (v := (-4)) dX25_waitsFor_56 (by decide) ?_
    refine jj_iret (pc := 58) hX dX25_waitsFor_58 hr ⟨Nat.le_refl _, Nat.le_refl _⟩ ?_
    unfold m_waits
    rw [if_neg h6]
    exact ⟨rfl, rfl, rfl, rfl, rfl⟩
  · have hpl2 := hpl h6
    have hpl3 := hpl2.2
    refine jj_aload_n (pc := 9) hX dX25_waitsFor_9 rfl ?_
    refine jj_getR (pc := 10) hX (x := some 3) fl_X25_13_25 dX25_waitsFor_10 rfl rfl rfl ?_
    refine jj_bipush (pc := 13) hX (v := 40) dX25_waitsFor_13 (by decide) ?_
    refine jj_aload_n (pc := 15) hX dX25_waitsFor_15 rfl ?_
    refine jj_getR (pc := 16) hX (x := some 13) fl_X25_35_25 dX25_waitsFor_16 rfl rfl rfl ?_
    refine jj_iload_n (pc := 19) hX dX25_waitsFor_19 rfl ?_
    refine jj_iald (pc := 20) hX t dX25_waitsFor_20 rfl rfl rfl ⟨by omega, by omega⟩ ?_
    refine jj_imul (pc := 21) hX dX25_waitsFor_21 ?_
    refine jj_aload_n (pc := 22) hX dX25_waitsFor_22 rfl ?_
    refine jj_getR (pc := 23) hX (x := some 14) fl_X25_38_25 dX25_waitsFor_23 rfl rfl rfl ?_
    refine jj_iload_n (pc := 26) hX dX25_waitsFor_26 rfl ?_
    refine jj_iald (pc := 27) hX t dX25_waitsFor_27 rfl rfl rfl ⟨by omega, by omega⟩ ?_
    refine jj_iadd (pc := 28) hX dX25_waitsFor_28 ?_
    refine jj_iald (pc := 29) hX ((40 * nv (σ.1 13 t)) + nv (σ.1 14 t)) dX25_waitsFor_29 rfl rfl (ix_add (ix_mul rfl hb.1) hpl2.1) ⟨by omega, by omega⟩ ?_
    refine jj_bipush (pc := 30) hX (v := 18) dX25_waitsFor_30 (by decide) ?_
    refine jj_icmp_ne (pc := 32) hX 56 dX25_waitsFor_32 rfl (fun h32 => ?_) (fun h32 => ?_)
    · refine jj_bipush (pc := 56) hX (v := (-4)) dX25_waitsFor_56 (by decide) ?_
      refine jj_iret (pc := 58) hX dX25_waitsFor_58 hr ⟨Nat.le_refl _, Nat.le_refl _⟩ ?_
      unfold m_waits
      rw [if_pos h6, if_neg h32]
      exact ⟨rfl, rfl, rfl, rfl, rfl⟩
    · refine jj_aload_n (pc := 35) hX dX25_waitsFor_35 rfl ?_
      refine jj_getR (pc := 36) hX (x := some 32) fl_X25_93_25 dX25_waitsFor_36 rfl rfl rfl ?_
      refine jj_iload_n (pc := 39) hX dX25_waitsFor_39 rfl ?_
      refine jj_iald (pc := 40) hX t dX25_waitsFor_40 rfl rfl rfl ⟨by omega, by omega⟩ ?_
      refine jj_if_eq (pc := 41) hX 56 dX25_waitsFor_41 rfl (fun h41 => ?_) (fun h41 => ?_)
      · refine jj_bipush (pc := 56) hX (v := (-4)) dX25_waitsFor_56 (by decide) ?_
        refine jj_iret (pc := 58) hX dX25_waitsFor_58 hr ⟨Nat.le_refl _, Nat.le_refl _⟩ ?_
        unfold m_waits
        rw [if_pos h6, if_pos h32, if_pos h41]
        exact ⟨rfl, rfl, rfl, rfl, rfl⟩
      · refine jj_aload_n (pc := 44) hX dX25_waitsFor_44 rfl ?_
        refine jj_getR (pc := 45) hX (x := some 17) fl_X25_47_25 dX25_waitsFor_45 rfl rfl rfl ?_
        refine jj_iload_n (pc := 48) hX dX25_waitsFor_48 rfl ?_
        refine jj_iald (pc := 49) hX t dX25_waitsFor_49 rfl rfl rfl ⟨by omega, by omega⟩ ?_
        refine jj_sipush (pc := 50) hX (v := 200) dX25_waitsFor_50 (by decide) ?_
        refine jj_icmp_lt (pc := 53) hX 59 dX25_waitsFor_53 rfl (fun h53 => ?_) (fun h53 => ?_)
        · have hp0 : 1 ≤ nv (σ.1 32 t) := by
            rcases Nat.eq_zero_or_pos (nv (σ.1 32 t)) with q | q
            · exact absurd (by rw [hp.1, q]; rfl) h41
            · exact q
          refine jj_bipush (pc := 59) hX (v := 12) dX25_waitsFor_59 (by decide) ?_
          refine jj_iload_n (pc := 61) hX dX25_waitsFor_61 rfl ?_
          refine jj_imul (pc := 62) hX dX25_waitsFor_62 ?_
          refine jj_aload_n (pc := 63) hX dX25_waitsFor_63 rfl ?_
          refine jj_getR (pc := 64) hX (x := some 32) fl_X25_93_25 dX25_waitsFor_64 rfl rfl rfl ?_
          refine jj_iload_n (pc := 67) hX dX25_waitsFor_67 rfl ?_
          refine jj_iald (pc := 68) hX t dX25_waitsFor_68 rfl rfl rfl ⟨by omega, by omega⟩ ?_
          refine jj_iadd (pc := 69) hX dX25_waitsFor_69 ?_
          refine jj_iconst (pc := 70) hX (v := 1) dX25_waitsFor_70 (by decide) ?_
          refine jj_isub (pc := 71) hX dX25_waitsFor_71 ?_
          refine jj_istore_n (pc := 72) hX dX25_waitsFor_72 (by decide) ?_
          refine jj_aload_n (pc := 73) hX dX25_waitsFor_73 rfl ?_
          refine jj_getR (pc := 74) hX (x := some 31) fl_X25_90_25 dX25_waitsFor_74 rfl rfl rfl ?_
          refine jj_iload_n (pc := 77) hX dX25_waitsFor_77 rfl ?_
          refine jj_zald (pc := 78) hX (((12 * t) + nv (σ.1 32 t)) - 1) dX25_waitsFor_78 rfl rfl (ix_sub (ix_add (ix_mul rfl rfl) hp.1) rfl (by omega)) ⟨by omega, by omega⟩ ?_
          refine jj_if_ne (pc := 79) hX 85 dX25_waitsFor_79 rfl (fun h79 => ?_) (fun h79 => ?_)
          · refine jj_aload_n (pc := 85) hX dX25_waitsFor_85 rfl ?_
            refine jj_getR (pc := 86) hX (x := some 30) fl_X25_87_25 dX25_waitsFor_86 rfl rfl rfl ?_
            refine jj_iload_n (pc := 89) hX dX25_waitsFor_89 rfl ?_
            refine jj_lald (pc := 90) hX (((12 * t) + nv (σ.1 32 t)) - 1) dX25_waitsFor_90 rfl rfl (ix_sub (ix_add (ix_mul rfl rfl) hp.1) rfl (by omega)) ⟨by omega, by omega⟩ ?_
            refine jj_l2i (pc := 91) hX dX25_waitsFor_91 ?_
            refine jj_istore_n (pc := 92) hX dX25_waitsFor_92 (by decide) ?_
            have hoo := hh h41 h79
            have hoo2 := hoo.2
            refine jj_aload_n (pc := 93) hX dX25_waitsFor_93 rfl ?_
            refine jj_getR (pc := 94) hX (x := some 15) fl_X25_41_25 dX25_waitsFor_94 rfl rfl rfl ?_
            refine jj_iload_n (pc := 97) hX dX25_waitsFor_97 rfl ?_
            refine jj_iald (pc := 98) hX (nv (σ.2 30 (12 * t + nv (σ.1 32 t) - 1)).toInt32) dX25_waitsFor_98 rfl rfl hoo.1 ⟨by omega, by omega⟩ ?_
            refine jj_if_ne (pc := 99) hX 106 dX25_waitsFor_99 rfl (fun h99 => ?_) (fun h99 => ?_)
            · refine jj_bipush (pc := 106) hX (v := (-4)) dX25_waitsFor_106 (by decide) ?_
              refine jj_iret (pc := 108) hX dX25_waitsFor_108 hr ⟨Nat.le_refl _, Nat.le_refl _⟩ ?_
              unfold m_waits
              rw [if_pos h6, if_pos h32, if_neg h41, if_pos h53, if_neg h79, if_neg h99]
              exact ⟨rfl, rfl, rfl, rfl, rfl⟩
            · refine jj_iload_n (pc := 102) hX dX25_waitsFor_102 rfl ?_
              refine jj_goto (pc := 103) hX 108 dX25_waitsFor_103 rfl ?_
              refine jj_iret (pc := 108) hX dX25_waitsFor_108 hr ⟨Nat.le_refl _, Nat.le_refl _⟩ ?_
              unfold m_waits
              rw [if_pos h6, if_pos h32, if_neg h41, if_pos h53, if_neg h79, if_pos h99]
              exact ⟨rfl, rfl, rfl, rfl, rfl⟩
          · refine jj_bipush (pc := 82) hX (v := (-4)) dX25_waitsFor_82 (by decide) ?_
            refine jj_iret (pc := 84) hX dX25_waitsFor_84 hr ⟨Nat.le_refl _, Nat.le_refl _⟩ ?_
            unfold m_waits
            rw [if_pos h6, if_pos h32, if_neg h41, if_pos h53, if_pos h79]
            exact ⟨rfl, rfl, rfl, rfl, rfl⟩
        · refine jj_bipush (pc := 56) hX (v := (-4)) dX25_waitsFor_56 (by decide) ?_
          refine jj_iret (pc := 58) hX dX25_waitsFor_58 hr ⟨Nat.le_refl _, Nat.le_refl _⟩ ?_
          unfold m_waits
          rw [if_pos h6, if_pos h32, if_neg h41, if_neg h53]
          exact ⟨rfl, rfl, rfl, rfl, rfl⟩

theorem w_standing (G : jj_G) (σ : jm) (t : Nat) (ht : t < 85) (hb : jb (σ.1 13 t) 7) (hpl : σ.1 15 t = 0 → jb (σ.1 14 t) 39) (hp : jb (σ.1 32 t) 12) (hh : ¬ σ.1 32 t = 0 → ¬ σ.1 31 (12 * t + nv (σ.1 32 t) - 1) = 0 → jb (σ.2 30 (12 * t + nv (σ.1 32 t) - 1)).toInt32 84) : jm_M G yX25_standing cX25_standing 2 (some .int) 1 23 [jI (nI t)] σ σ (some (jI (m_stand t σ))) := by
  refine jj_intro "BranchCellsModel" (by decide) rfl (Nat.le_of_ble_eq_true rfl) ?_
  intro X hG hX hr hN hC hF
  subst hG
  refine jj_aload_n (pc := 0) hX dX25_standing_0 rfl ?_
  refine jj_getR (pc := 1) hX (x := some 15) fl_X25_41_25 dX25_standing_1 rfl rfl rfl ?_
  refine jj_iload_n (pc := 4) hX dX25_standing_4 rfl ?_
  refine jj_iald (pc := 5) hX t dX25_standing_5 rfl rfl rfl ⟨by omega, by omega⟩ ?_
  refine jj_if_eq (pc := 6) hX 18 dX25_standing_6 rfl (fun h6 => ?_) (fun h6 => ?_)
  · refine jj_aload_n (pc := 18) hX dX25_standing_18 rfl ?_
    refine jj_iload_n (pc := 19) hX dX25_standing_19 rfl ?_
    refine jj_callV (pc := 20) hX (w_waitsFor X.1 σ t ht hb hpl hp hh) dX25_standing_20 (lw_V q1668 q1670 qs32 q78 q1671) rfl ⟨by decide +kernel, by decide +kernel, by show _ = some (1 : Nat); decide +kernel⟩ ⟨Nat.le_of_ble_eq_true rfl, Nat.le_of_ble_eq_true rfl, Nat.le_of_ble_eq_true rfl, Nat.le_of_ble_eq_true rfl, Nat.le_of_ble_eq_true rfl⟩ (fun q => by cases q) rfl jc_25 rfl (jj_keq ?_) jj_kno
    refine jj_bipush (pc := 23) hX (v := (-4)) dX25_standing_23 (by decide) ?_
    refine jj_icmp_eq (pc := 25) hX 32 dX25_standing_25 rfl (fun h25 => ?_) (fun h25 => ?_)
    · refine jj_iconst (pc := 32) hX (v := 0) dX25_standing_32 (by decide) ?_
      refine jj_iret (pc := 33) hX dX25_standing_33 hr ⟨Nat.le_refl _, Nat.le_refl _⟩ ?_
      unfold m_stand
      rw [if_pos h6, if_pos h25]
      exact ⟨rfl, rfl, rfl, rfl, rfl⟩
    · refine jj_iconst (pc := 28) hX (v := 1) dX25_standing_28 (by decide) ?_
      refine jj_goto (pc := 29) hX 33 dX25_standing_29 rfl ?_
      refine jj_iret (pc := 33) hX dX25_standing_33 hr ⟨Nat.le_refl _, Nat.le_refl _⟩ ?_
      unfold m_stand
      rw [if_pos h6, if_neg h25]
      exact ⟨rfl, rfl, rfl, rfl, rfl⟩
  · refine jj_aload_n (pc := 9) hX dX25_standing_9 rfl ?_
    refine jj_getR (pc := 10) hX (x := some 15) fl_X25_41_25 dX25_standing_10 rfl rfl rfl ?_
    refine jj_iload_n (pc := 13) hX dX25_standing_13 rfl ?_
    refine jj_iald (pc := 14) hX t dX25_standing_14 rfl rfl rfl ⟨by omega, by omega⟩ ?_
    refine jj_goto (pc := 15) hX 33 dX25_standing_15 rfl ?_
    refine jj_iret (pc := 33) hX dX25_standing_33 hr ⟨Nat.le_refl _, Nat.le_refl _⟩ ?_
    unfold m_stand
    rw [if_neg h6]
    exact ⟨rfl, rfl, rfl, rfl, rfl⟩

theorem w_taken (G : jj_G) (j : Nat) (hj : j ≤ 21) : jm_S G yX25_taken cX25_taken 1 (some .int) 0 0 [jI (nI j)] (some (jI (nI (m_tk j)))) := by
  intro τ I L r
  refine jj_intro "BranchCellsModel" (by decide) rfl (Nat.le_of_ble_eq_true rfl) ?_
  intro X hG hX hr hN hC hF
  subst hG
  rcases c22 hj with rfl | rfl | rfl | rfl | rfl | rfl | rfl | rfl | rfl | rfl | rfl | rfl | rfl | rfl | rfl | rfl | rfl | rfl | rfl | rfl | rfl | rfl
  · refine jj_iload_n (pc := 0) hX dX25_taken_0 rfl ?_
    refine jj_iconst (pc := 1) hX (v := 4) dX25_taken_1 (by decide) ?_
    refine jj_icmp_lt (pc := 2) hX 15 dX25_taken_2 rfl (fun _ => ?_) (fun q => absurd (by decide) q)
    refine jj_iload_n (pc := 15) hX dX25_taken_15 rfl ?_
    refine jj_iconst (pc := 16) hX (v := 2) dX25_taken_16 (by decide) ?_
    refine jj_icmp_eq (pc := 17) hX 37 dX25_taken_17 rfl (fun q => absurd q (by decide)) (fun _ => ?_)
    refine jj_iload_n (pc := 20) hX dX25_taken_20 rfl ?_
    refine jj_iconst (pc := 21) hX (v := 3) dX25_taken_21 (by decide) ?_
    refine jj_icmp_eq (pc := 22) hX 37 dX25_taken_22 rfl (fun q => absurd q (by decide)) (fun _ => ?_)
    refine jj_iload_n (pc := 25) hX dX25_taken_25 rfl ?_
    refine jj_bipush (pc := 26) hX (v := 13) dX25_taken_26 (by decide) ?_
    refine jj_icmp_eq (pc := 28) hX 37 dX25_taken_28 rfl (fun q => absurd q (by decide)) (fun _ => ?_)
    refine jj_iload_n (pc := 31) hX dX25_taken_31 rfl ?_
    refine jj_bipush (pc := 32) hX (v := 15) dX25_taken_32 (by decide) ?_
    refine jj_icmp_lt (pc := 34) hX 41 dX25_taken_34 rfl (fun _ => ?_) (fun q => absurd (by decide) q)
    refine jj_iconst (pc := 41) hX (v := 0) dX25_taken_41 (by decide) ?_
    exact jj_iret (pc := 42) hX dX25_taken_42 hr ⟨Nat.le_refl _, Nat.le_refl _⟩ (⟨rfl, rfl, rfl, rfl, rfl⟩)
  · refine jj_iload_n (pc := 0) hX dX25_taken_0 rfl ?_
    refine jj_iconst (pc := 1) hX (v := 4) dX25_taken_1 (by decide) ?_
    refine jj_icmp_lt (pc := 2) hX 15 dX25_taken_2 rfl (fun _ => ?_) (fun q => absurd (by decide) q)
    refine jj_iload_n (pc := 15) hX dX25_taken_15 rfl ?_
    refine jj_iconst (pc := 16) hX (v := 2) dX25_taken_16 (by decide) ?_
    refine jj_icmp_eq (pc := 17) hX 37 dX25_taken_17 rfl (fun q => absurd q (by decide)) (fun _ => ?_)
    refine jj_iload_n (pc := 20) hX dX25_taken_20 rfl ?_
    refine jj_iconst (pc := 21) hX (v := 3) dX25_taken_21 (by decide) ?_
    refine jj_icmp_eq (pc := 22) hX 37 dX25_taken_22 rfl (fun q => absurd q (by decide)) (fun _ => ?_)
    refine jj_iload_n (pc := 25) hX dX25_taken_25 rfl ?_
    refine jj_bipush (pc := 26) hX (v := 13) dX25_taken_26 (by decide) ?_
    refine jj_icmp_eq (pc := 28) hX 37 dX25_taken_28 rfl (fun q => absurd q (by decide)) (fun _ => ?_)
    refine jj_iload_n (pc := 31) hX dX25_taken_31 rfl ?_
    refine jj_bipush (pc := 32) hX (v := 15) dX25_taken_32 (by decide) ?_
    refine jj_icmp_lt (pc := 34) hX 41 dX25_taken_34 rfl (fun _ => ?_) (fun q => absurd (by decide) q)
    refine jj_iconst (pc := 41) hX (v := 0) dX25_taken_41 (by decide) ?_
    exact jj_iret (pc := 42) hX dX25_taken_42 hr ⟨Nat.le_refl _, Nat.le_refl _⟩ (⟨rfl, rfl, rfl, rfl, rfl⟩)
  · refine jj_iload_n (pc := 0) hX dX25_taken_0 rfl ?_
    refine jj_iconst (pc := 1) hX (v := 4) dX25_taken_1 (by decide) ?_
    refine jj_icmp_lt (pc := 2) hX 15 dX25_taken_2 rfl (fun _ => ?_) (fun q => absurd (by decide) q)
    refine jj_iload_n (pc := 15) hX dX25_taken_15 rfl ?_
    refine jj_iconst (pc := 16) hX (v := 2) dX25_taken_16 (by decide) ?_
    refine jj_icmp_eq (pc := 17) hX 37 dX25_taken_17 rfl (fun _ => ?_) (fun q => absurd (by decide) q)
    refine jj_iconst (pc := 37) hX (v := 1) dX25_taken_37 (by decide) ?_
    refine jj_goto (pc := 38) hX 42 dX25_taken_38 rfl ?_
    exact jj_iret (pc := 42) hX dX25_taken_42 hr ⟨Nat.le_refl _, Nat.le_refl _⟩ (⟨rfl, rfl, rfl, rfl, rfl⟩)
  · refine jj_iload_n (pc := 0) hX dX25_taken_0 rfl ?_
    refine jj_iconst (pc := 1) hX (v := 4) dX25_taken_1 (by decide) ?_
    refine jj_icmp_lt (pc := 2) hX 15 dX25_taken_2 rfl (fun _ => ?_) (fun q => absurd (by decide) q)
    refine jj_iload_n (pc := 15) hX dX25_taken_15 rfl ?_
    refine jj_iconst (pc := 16) hX (v := 2) dX25_taken_16 (by decide) ?_
    refine jj_icmp_eq (pc := 17) hX 37 dX25_taken_17 rfl (fun q => absurd q (by decide)) (fun _ => ?_)
    refine jj_iload_n (pc := 20) hX dX25_taken_20 rfl ?_
    refine jj_iconst (pc := 21) hX (v := 3) dX25_taken_21 (by decide) ?_
    refine jj_icmp_eq (pc := 22) hX 37 dX25_taken_22 rfl (fun _ => ?_) (fun q => absurd (by decide) q)
    refine jj_iconst (pc := 37) hX (v := 1) dX25_taken_37 (by decide) ?_
    refine jj_goto (pc := 38) hX 42 dX25_taken_38 rfl ?_
    exact jj_iret (pc := 42) hX dX25_taken_42 hr ⟨Nat.le_refl _, Nat.le_refl _⟩ (⟨rfl, rfl, rfl, rfl, rfl⟩)
  · refine jj_iload_n (pc := 0) hX dX25_taken_0 rfl ?_
    refine jj_iconst (pc := 1) hX (v := 4) dX25_taken_1 (by decide) ?_
    refine jj_icmp_lt (pc := 2) hX 15 dX25_taken_2 rfl (fun q => absurd q (by decide)) (fun _ => ?_)
    refine jj_iload_n (pc := 5) hX dX25_taken_5 rfl ?_
    refine jj_bipush (pc := 6) hX (v := 11) dX25_taken_6 (by decide) ?_
    refine jj_icmp_gt (pc := 8) hX 15 dX25_taken_8 rfl (fun q => absurd q (by decide)) (fun _ => ?_)
    refine jj_iconst (pc := 11) hX (v := 2) dX25_taken_11 (by decide) ?_
    refine jj_goto (pc := 12) hX 42 dX25_taken_12 rfl ?_
    exact jj_iret (pc := 42) hX dX25_taken_42 hr ⟨Nat.le_refl _, Nat.le_refl _⟩ (⟨rfl, rfl, rfl, rfl, rfl⟩)
  · refine jj_iload_n (pc := 0) hX dX25_taken_0 rfl ?_
    refine jj_iconst (pc := 1) hX (v := 4) dX25_taken_1 (by decide) ?_
    refine jj_icmp_lt (pc := 2) hX 15 dX25_taken_2 rfl (fun q => absurd q (by decide)) (fun _ => ?_)
    refine jj_iload_n (pc := 5) hX dX25_taken_5 rfl ?_
    refine jj_bipush (pc := 6) hX (v := 11) dX25_taken_6 (by decide) ?_
    refine jj_icmp_gt (pc := 8) hX 15 dX25_taken_8 rfl (fun q => absurd q (by decide)) (fun _ => ?_)
    refine jj_iconst (pc := 11) hX (v := 2) dX25_taken_11 (by decide) ?_
    refine jj_goto (pc := 12) hX 42 dX25_taken_12 rfl ?_
    exact jj_iret (pc := 42) hX dX25_taken_42 hr ⟨Nat.le_refl _, Nat.le_refl _⟩ (⟨rfl, rfl, rfl, rfl, rfl⟩)
  · refine jj_iload_n (pc := 0) hX dX25_taken_0 rfl ?_
    refine jj_iconst (pc := 1) hX (v := 4) dX25_taken_1 (by decide) ?_
    refine jj_icmp_lt (pc := 2) hX 15 dX25_taken_2 rfl (fun q => absurd q (by decide)) (fun _ => ?_)
    refine jj_iload_n (pc := 5) hX dX25_taken_5 rfl ?_
    refine jj_bipush (pc := 6) hX (v := 11) dX25_taken_6 (by decide) ?_
    refine jj_icmp_gt (pc := 8) hX 15 dX25_taken_8 rfl (fun q => absurd q (by decide)) (fun _ => ?_)
    refine jj_iconst (pc := 11) hX (v := 2) dX25_taken_11 (by decide) ?_
    refine jj_goto (pc := 12) hX 42 dX25_taken_12 rfl ?_
    exact jj_iret (pc := 42) hX dX25_taken_42 hr ⟨Nat.le_refl _, Nat.le_refl _⟩ (⟨rfl, rfl, rfl, rfl, rfl⟩)
  · refine jj_iload_n (pc := 0) hX dX25_taken_0 rfl ?_
    refine jj_iconst (pc := 1) hX (v := 4) dX25_taken_1 (by decide) ?_
    refine jj_icmp_lt (pc := 2) hX 15 dX25_taken_2 rfl (fun q => absurd q (by decide)) (fun _ => ?_)
    refine jj_iload_n (pc := 5) hX dX25_taken_5 rfl ?_
    refine jj_bipush (pc := 6) hX (v := 11) dX25_taken_6 (by decide) ?_
    refine jj_icmp_gt (pc := 8) hX 15 dX25_taken_8 rfl (fun q => absurd q (by decide)) (fun _ => ?_)
    refine jj_iconst (pc := 11) hX (v := 2) dX25_taken_11 (by decide) ?_
    refine jj_goto (pc := 12) hX 42 dX25_taken_12 rfl ?_
    exact jj_iret (pc := 42) hX dX25_taken_42 hr ⟨Nat.le_refl _, Nat.le_refl _⟩ (⟨rfl, rfl, rfl, rfl, rfl⟩)
  · refine jj_iload_n (pc := 0) hX dX25_taken_0 rfl ?_
    refine jj_iconst (pc := 1) hX (v := 4) dX25_taken_1 (by decide) ?_
    refine jj_icmp_lt (pc := 2) hX 15 dX25_taken_2 rfl (fun q => absurd q (by decide)) (fun _ => ?_)
    refine jj_iload_n (pc := 5) hX dX25_taken_5 rfl ?_
    refine jj_bipush (pc := 6) hX (v := 11) dX25_taken_6 (by decide) ?_
    refine jj_icmp_gt (pc := 8) hX 15 dX25_taken_8 rfl (fun q => absurd q (by decide)) (fun _ => ?_)
    refine jj_iconst (pc := 11) hX (v := 2) dX25_taken_11 (by decide) ?_
    refine jj_goto (pc := 12) hX 42 dX25_taken_12 rfl ?_
    exact jj_iret (pc := 42) hX dX25_taken_42 hr ⟨Nat.le_refl _, Nat.le_refl _⟩ (⟨rfl, rfl, rfl, rfl, rfl⟩)
  · refine jj_iload_n (pc := 0) hX dX25_taken_0 rfl ?_
    refine jj_iconst (pc := 1) hX (v := 4) dX25_taken_1 (by decide) ?_
    refine jj_icmp_lt (pc := 2) hX 15 dX25_taken_2 rfl (fun q => absurd q (by decide)) (fun _ => ?_)
    refine jj_iload_n (pc := 5) hX dX25_taken_5 rfl ?_
    refine jj_bipush (pc := 6) hX (v := 11) dX25_taken_6 (by decide) ?_
    refine jj_icmp_gt (pc := 8) hX 15 dX25_taken_8 rfl (fun q => absurd q (by decide)) (fun _ => ?_)
    refine jj_iconst (pc := 11) hX (v := 2) dX25_taken_11 (by decide) ?_
    refine jj_goto (pc := 12) hX 42 dX25_taken_12 rfl ?_
    exact jj_iret (pc := 42) hX dX25_taken_42 hr ⟨Nat.le_refl _, Nat.le_refl _⟩ (⟨rfl, rfl, rfl, rfl, rfl⟩)
  · refine jj_iload_n (pc := 0) hX dX25_taken_0 rfl ?_
    refine jj_iconst (pc := 1) hX (v := 4) dX25_taken_1 (by decide) ?_
    refine jj_icmp_lt (pc := 2) hX 15 dX25_taken_2 rfl (fun q => absurd q (by decide)) (fun _ => ?_)
    refine jj_iload_n (pc := 5) hX dX25_taken_5 rfl ?_
    refine jj_bipush (pc := 6) hX (v := 11) dX25_taken_6 (by decide) ?_
    refine jj_icmp_gt (pc := 8) hX 15 dX25_taken_8 rfl (fun q => absurd q (by decide)) (fun _ => ?_)
    refine jj_iconst (pc := 11) hX (v := 2) dX25_taken_11 (by decide) ?_
    refine jj_goto (pc := 12) hX 42 dX25_taken_12 rfl ?_
    exact jj_iret (pc := 42) hX dX25_taken_42 hr ⟨Nat.le_refl _, Nat.le_refl _⟩ (⟨rfl, rfl, rfl, rfl, rfl⟩)
  · refine jj_iload_n (pc := 0) hX dX25_taken_0 rfl ?_
    refine jj_iconst (pc := 1) hX (v := 4) dX25_taken_1 (by decide) ?_
    refine jj_icmp_lt (pc := 2) hX 15 dX25_taken_2 rfl (fun q => absurd q (by decide)) (fun _ => ?_)
    refine jj_iload_n (pc := 5) hX dX25_taken_5 rfl ?_
    refine jj_bipush (pc := 6) hX (v := 11) dX25_taken_6 (by decide) ?_
    refine jj_icmp_gt (pc := 8) hX 15 dX25_taken_8 rfl (fun q => absurd q (by decide)) (fun _ => ?_)
    refine jj_iconst (pc := 11) hX (v := 2) dX25_taken_11 (by decide) ?_
    refine jj_goto (pc := 12) hX 42 dX25_taken_12 rfl ?_
    exact jj_iret (pc := 42) hX dX25_taken_42 hr ⟨Nat.le_refl _, Nat.le_refl _⟩ (⟨rfl, rfl, rfl, rfl, rfl⟩)
  · refine jj_iload_n (pc := 0) hX dX25_taken_0 rfl ?_
    refine jj_iconst (pc := 1) hX (v := 4) dX25_taken_1 (by decide) ?_
    refine jj_icmp_lt (pc := 2) hX 15 dX25_taken_2 rfl (fun q => absurd q (by decide)) (fun _ => ?_)
    refine jj_iload_n (pc := 5) hX dX25_taken_5 rfl ?_
    refine jj_bipush (pc := 6) hX (v := 11) dX25_taken_6 (by decide) ?_
    refine jj_icmp_gt (pc := 8) hX 15 dX25_taken_8 rfl (fun _ => ?_) (fun q => absurd (by decide) q)
    refine jj_iload_n (pc := 15) hX dX25_taken_15 rfl ?_
    refine jj_iconst (pc := 16) hX (v := 2) dX25_taken_16 (by decide) ?_
    refine jj_icmp_eq (pc := 17) hX 37 dX25_taken_17 rfl (fun q => absurd q (by decide)) (fun _ => ?_)
    refine jj_iload_n (pc := 20) hX dX25_taken_20 rfl ?_
    refine jj_iconst (pc := 21) hX (v := 3) dX25_taken_21 (by decide) ?_
    refine jj_icmp_eq (pc := 22) hX 37 dX25_taken_22 rfl (fun q => absurd q (by decide)) (fun _ => ?_)
    refine jj_iload_n (pc := 25) hX dX25_taken_25 rfl ?_
    refine jj_bipush (pc := 26) hX (v := 13) dX25_taken_26 (by decide) ?_
    refine jj_icmp_eq (pc := 28) hX 37 dX25_taken_28 rfl (fun q => absurd q (by decide)) (fun _ => ?_)
    refine jj_iload_n (pc := 31) hX dX25_taken_31 rfl ?_
    refine jj_bipush (pc := 32) hX (v := 15) dX25_taken_32 (by decide) ?_
    refine jj_icmp_lt (pc := 34) hX 41 dX25_taken_34 rfl (fun _ => ?_) (fun q => absurd (by decide) q)
    refine jj_iconst (pc := 41) hX (v := 0) dX25_taken_41 (by decide) ?_
    exact jj_iret (pc := 42) hX dX25_taken_42 hr ⟨Nat.le_refl _, Nat.le_refl _⟩ (⟨rfl, rfl, rfl, rfl, rfl⟩)
  · refine jj_iload_n (pc := 0) hX dX25_taken_0 rfl ?_
    refine jj_iconst (pc := 1) hX (v := 4) dX25_taken_1 (by decide) ?_
    refine jj_icmp_lt (pc := 2) hX 15 dX25_taken_2 rfl (fun q => absurd q (by decide)) (fun _ => ?_)
    refine jj_iload_n (pc := 5) hX dX25_taken_5 rfl ?_
    refine jj_bipush (pc := 6) hX (v := 11) dX25_taken_6 (by decide) ?_
    refine jj_icmp_gt (pc := 8) hX 15 dX25_taken_8 rfl (fun _ => ?_) (fun q => absurd (by decide) q)
    refine jj_iload_n (pc := 15) hX dX25_taken_15 rfl ?_
    refine jj_iconst (pc := 16) hX (v := 2) dX25_taken_16 (by decide) ?_
    refine jj_icmp_eq (pc := 17) hX 37 dX25_taken_17 rfl (fun q => absurd q (by decide)) (fun _ => ?_)
    refine jj_iload_n (pc := 20) hX dX25_taken_20 rfl ?_
    refine jj_iconst (pc := 21) hX (v := 3) dX25_taken_21 (by decide) ?_
    refine jj_icmp_eq (pc := 22) hX 37 dX25_taken_22 rfl (fun q => absurd q (by decide)) (fun _ => ?_)
    refine jj_iload_n (pc := 25) hX dX25_taken_25 rfl ?_
    refine jj_bipush (pc := 26) hX (v := 13) dX25_taken_26 (by decide) ?_
    refine jj_icmp_eq (pc := 28) hX 37 dX25_taken_28 rfl (fun _ => ?_) (fun q => absurd (by decide) q)
    refine jj_iconst (pc := 37) hX (v := 1) dX25_taken_37 (by decide) ?_
    refine jj_goto (pc := 38) hX 42 dX25_taken_38 rfl ?_
    exact jj_iret (pc := 42) hX dX25_taken_42 hr ⟨Nat.le_refl _, Nat.le_refl _⟩ (⟨rfl, rfl, rfl, rfl, rfl⟩)
  · refine jj_iload_n (pc := 0) hX dX25_taken_0 rfl ?_
    refine jj_iconst (pc := 1) hX (v := 4) dX25_taken_1 (by decide) ?_
    refine jj_icmp_lt (pc := 2) hX 15 dX25_taken_2 rfl (fun q => absurd q (by decide)) (fun _ => ?_)
    refine jj_iload_n (pc := 5) hX dX25_taken_5 rfl ?_
    refine jj_bipush (pc := 6) hX (v := 11) dX25_taken_6 (by decide) ?_
    refine jj_icmp_gt (pc := 8) hX 15 dX25_taken_8 rfl (fun _ => ?_) (fun q => absurd (by decide) q)
    refine jj_iload_n (pc := 15) hX dX25_taken_15 rfl ?_
    refine jj_iconst (pc := 16) hX (v := 2) dX25_taken_16 (by decide) ?_
    refine jj_icmp_eq (pc := 17) hX 37 dX25_taken_17 rfl (fun q => absurd q (by decide)) (fun _ => ?_)
    refine jj_iload_n (pc := 20) hX dX25_taken_20 rfl ?_
    refine jj_iconst (pc := 21) hX (v := 3) dX25_taken_21 (by decide) ?_
    refine jj_icmp_eq (pc := 22) hX 37 dX25_taken_22 rfl (fun q => absurd q (by decide)) (fun _ => ?_)
    refine jj_iload_n (pc := 25) hX dX25_taken_25 rfl ?_
    refine jj_bipush (pc := 26) hX (v := 13) dX25_taken_26 (by decide) ?_
    refine jj_icmp_eq (pc := 28) hX 37 dX25_taken_28 rfl (fun q => absurd q (by decide)) (fun _ => ?_)
    refine jj_iload_n (pc := 31) hX dX25_taken_31 rfl ?_
    refine jj_bipush (pc := 32) hX (v := 15) dX25_taken_32 (by decide) ?_
    refine jj_icmp_lt (pc := 34) hX 41 dX25_taken_34 rfl (fun _ => ?_) (fun q => absurd (by decide) q)
    refine jj_iconst (pc := 41) hX (v := 0) dX25_taken_41 (by decide) ?_
    exact jj_iret (pc := 42) hX dX25_taken_42 hr ⟨Nat.le_refl _, Nat.le_refl _⟩ (⟨rfl, rfl, rfl, rfl, rfl⟩)
  · refine jj_iload_n (pc := 0) hX dX25_taken_0 rfl ?_
    refine jj_iconst (pc := 1) hX (v := 4) dX25_taken_1 (by decide) ?_
    refine jj_icmp_lt (pc := 2) hX 15 dX25_taken_2 rfl (fun q => absurd q (by decide)) (fun _ => ?_)
    refine jj_iload_n (pc := 5) hX dX25_taken_5 rfl ?_
    refine jj_bipush (pc := 6) hX (v := 11) dX25_taken_6 (by decide) ?_
    refine jj_icmp_gt (pc := 8) hX 15 dX25_taken_8 rfl (fun _ => ?_) (fun q => absurd (by decide) q)
    refine jj_iload_n (pc := 15) hX dX25_taken_15 rfl ?_
    refine jj_iconst (pc := 16) hX (v := 2) dX25_taken_16 (by decide) ?_
    refine jj_icmp_eq (pc := 17) hX 37 dX25_taken_17 rfl (fun q => absurd q (by decide)) (fun _ => ?_)
    refine jj_iload_n (pc := 20) hX dX25_taken_20 rfl ?_
    refine jj_iconst (pc := 21) hX (v := 3) dX25_taken_21 (by decide) ?_
    refine jj_icmp_eq (pc := 22) hX 37 dX25_taken_22 rfl (fun q => absurd q (by decide)) (fun _ => ?_)
    refine jj_iload_n (pc := 25) hX dX25_taken_25 rfl ?_
    refine jj_bipush (pc := 26) hX (v := 13) dX25_taken_26 (by decide) ?_
    refine jj_icmp_eq (pc := 28) hX 37 dX25_taken_28 rfl (fun q => absurd q (by decide)) (fun _ => ?_)
    refine jj_iload_n (pc := 31) hX dX25_taken_31 rfl ?_
    refine jj_bipush (pc := 32) hX (v := 15) dX25_taken_32 (by decide) ?_
    refine jj_icmp_lt (pc := 34) hX 41 dX25_taken_34 rfl (fun q => absurd q (by decide)) (fun _ => ?_)
    refine jj_iconst (pc := 37) hX (v := 1) dX25_taken_37 (by decide) ?_
    refine jj_goto (pc := 38) hX 42 dX25_taken_38 rfl ?_
    exact jj_iret (pc := 42) hX dX25_taken_42 hr ⟨Nat.le_refl _, Nat.le_refl _⟩ (⟨rfl, rfl, rfl, rfl, rfl⟩)
  · refine jj_iload_n (pc := 0) hX dX25_taken_0 rfl ?_
    refine jj_iconst (pc := 1) hX (v := 4) dX25_taken_1 (by decide) ?_
    refine jj_icmp_lt (pc := 2) hX 15 dX25_taken_2 rfl (fun q => absurd q (by decide)) (fun _ => ?_)
    refine jj_iload_n (pc := 5) hX dX25_taken_5 rfl ?_
    refine jj_bipush (pc := 6) hX (v := 11) dX25_taken_6 (by decide) ?_
    refine jj_icmp_gt (pc := 8) hX 15 dX25_taken_8 rfl (fun _ => ?_) (fun q => absurd (by decide) q)
    refine jj_iload_n (pc := 15) hX dX25_taken_15 rfl ?_
    refine jj_iconst (pc := 16) hX (v := 2) dX25_taken_16 (by decide) ?_
    refine jj_icmp_eq (pc := 17) hX 37 dX25_taken_17 rfl (fun q => absurd q (by decide)) (fun _ => ?_)
    refine jj_iload_n (pc := 20) hX dX25_taken_20 rfl ?_
    refine jj_iconst (pc := 21) hX (v := 3) dX25_taken_21 (by decide) ?_
    refine jj_icmp_eq (pc := 22) hX 37 dX25_taken_22 rfl (fun q => absurd q (by decide)) (fun _ => ?_)
    refine jj_iload_n (pc := 25) hX dX25_taken_25 rfl ?_
    refine jj_bipush (pc := 26) hX (v := 13) dX25_taken_26 (by decide) ?_
    refine jj_icmp_eq (pc := 28) hX 37 dX25_taken_28 rfl (fun q => absurd q (by decide)) (fun _ => ?_)
    refine jj_iload_n (pc := 31) hX dX25_taken_31 rfl ?_
    refine jj_bipush (pc := 32) hX (v := 15) dX25_taken_32 (by decide) ?_
    refine jj_icmp_lt (pc := 34) hX 41 dX25_taken_34 rfl (fun q => absurd q (by decide)) (fun _ => ?_)
    refine jj_iconst (pc := 37) hX (v := 1) dX25_taken_37 (by decide) ?_
    refine jj_goto (pc := 38) hX 42 dX25_taken_38 rfl ?_
    exact jj_iret (pc := 42) hX dX25_taken_42 hr ⟨Nat.le_refl _, Nat.le_refl _⟩ (⟨rfl, rfl, rfl, rfl, rfl⟩)
  · refine jj_iload_n (pc := 0) hX dX25_taken_0 rfl ?_
    refine jj_iconst (pc := 1) hX (v := 4) dX25_taken_1 (by decide) ?_
    refine jj_icmp_lt (pc := 2) hX 15 dX25_taken_2 rfl (fun q => absurd q (by decide)) (fun _ => ?_)
    refine jj_iload_n (pc := 5) hX dX25_taken_5 rfl ?_
    refine jj_bipush (pc := 6) hX (v := 11) dX25_taken_6 (by decide) ?_
    refine jj_icmp_gt (pc := 8) hX 15 dX25_taken_8 rfl (fun _ => ?_) (fun q => absurd (by decide) q)
    refine jj_iload_n (pc := 15) hX dX25_taken_15 rfl ?_
    refine jj_iconst (pc := 16) hX (v := 2) dX25_taken_16 (by decide) ?_
    refine jj_icmp_eq (pc := 17) hX 37 dX25_taken_17 rfl (fun q => absurd q (by decide)) (fun _ => ?_)
    refine jj_iload_n (pc := 20) hX dX25_taken_20 rfl ?_
    refine jj_iconst (pc := 21) hX (v := 3) dX25_taken_21 (by decide) ?_
    refine jj_icmp_eq (pc := 22) hX 37 dX25_taken_22 rfl (fun q => absurd q (by decide)) (fun _ => ?_)
    refine jj_iload_n (pc := 25) hX dX25_taken_25 rfl ?_
    refine jj_bipush (pc := 26) hX (v := 13) dX25_taken_26 (by decide) ?_
    refine jj_icmp_eq (pc := 28) hX 37 dX25_taken_28 rfl (fun q => absurd q (by decide)) (fun _ => ?_)
    refine jj_iload_n (pc := 31) hX dX25_taken_31 rfl ?_
    refine jj_bipush (pc := 32) hX (v := 15) dX25_taken_32 (by decide) ?_
    refine jj_icmp_lt (pc := 34) hX 41 dX25_taken_34 rfl (fun q => absurd q (by decide)) (fun _ => ?_)
    refine jj_iconst (pc := 37) hX (v := 1) dX25_taken_37 (by decide) ?_
    refine jj_goto (pc := 38) hX 42 dX25_taken_38 rfl ?_
    exact jj_iret (pc := 42) hX dX25_taken_42 hr ⟨Nat.le_refl _, Nat.le_refl _⟩ (⟨rfl, rfl, rfl, rfl, rfl⟩)
  · refine jj_iload_n (pc := 0) hX dX25_taken_0 rfl ?_
    refine jj_iconst (pc := 1) hX (v := 4) dX25_taken_1 (by decide) ?_
    refine jj_icmp_lt (pc := 2) hX 15 dX25_taken_2 rfl (fun q => absurd q (by decide)) (fun _ => ?_)
    refine jj_iload_n (pc := 5) hX dX25_taken_5 rfl ?_
    refine jj_bipush (pc := 6) hX (v := 11) dX25_taken_6 (by decide) ?_
    refine jj_icmp_gt (pc := 8) hX 15 dX25_taken_8 rfl (fun _ => ?_) (fun q => absurd (by decide) q)
    refine jj_iload_n (pc := 15) hX dX25_taken_15 rfl ?_
    refine jj_iconst (pc := 16) hX (v := 2) dX25_taken_16 (by decide) ?_
    refine jj_icmp_eq (pc := 17) hX 37 dX25_taken_17 rfl (fun q => absurd q (by decide)) (fun _ => ?_)
    refine jj_iload_n (pc := 20) hX dX25_taken_20 rfl ?_
    refine jj_iconst (pc := 21) hX (v := 3) dX25_taken_21 (by decide) ?_
    refine jj_icmp_eq (pc := 22) hX 37 dX25_taken_22 rfl (fun q => absurd q (by decide)) (fun _ => ?_)
    refine jj_iload_n (pc := 25) hX dX25_taken_25 rfl ?_
    refine jj_bipush (pc := 26) hX (v := 13) dX25_taken_26 (by decide) ?_
    refine jj_icmp_eq (pc := 28) hX 37 dX25_taken_28 rfl (fun q => absurd q (by decide)) (fun _ => ?_)
    refine jj_iload_n (pc := 31) hX dX25_taken_31 rfl ?_
    refine jj_bipush (pc := 32) hX (v := 15) dX25_taken_32 (by decide) ?_
    refine jj_icmp_lt (pc := 34) hX 41 dX25_taken_34 rfl (fun q => absurd q (by decide)) (fun _ => ?_)
    refine jj_iconst (pc := 37) hX (v := 1) dX25_taken_37 (by decide) ?_
    refine jj_goto (pc := 38) hX 42 dX25_taken_38 rfl ?_
    exact jj_iret (pc := 42) hX dX25_taken_42 hr ⟨Nat.le_refl _, Nat.le_refl _⟩ (⟨rfl, rfl, rfl, rfl, rfl⟩)
  · refine jj_iload_n (pc := 0) hX dX25_taken_0 rfl ?_
    refine jj_iconst (pc := 1) hX (v := 4) dX25_taken_1 (by decide) ?_
    refine jj_icmp_lt (pc := 2) hX 15 dX25_taken_2 rfl (fun q => absurd q (by decide)) (fun _ => ?_)
    refine jj_iload_n (pc := 5) hX dX25_taken_5 rfl ?_
    refine jj_bipush (pc := 6) hX (v := 11) dX25_taken_6 (by decide) ?_
    refine jj_icmp_gt (pc := 8) hX 15 dX25_taken_8 rfl (fun _ => ?_) (fun q => absurd (by decide) q)
    refine jj_iload_n (pc := 15) hX dX25_taken_15 rfl ?_
    refine jj_iconst (pc := 16) hX (v := 2) dX25_taken_16 (by decide) ?_
    refine jj_icmp_eq (pc := 17) hX 37 dX25_taken_17 rfl (fun q => absurd q (by decide)) (fun _ => ?_)
    refine jj_iload_n (pc := 20) hX dX25_taken_20 rfl ?_
    refine jj_iconst (pc := 21) hX (v := 3) dX25_taken_21 (by decide) ?_
    refine jj_icmp_eq (pc := 22) hX 37 dX25_taken_22 rfl (fun q => absurd q (by decide)) (fun _ => ?_)
    refine jj_iload_n (pc := 25) hX dX25_taken_25 rfl ?_
    refine jj_bipush (pc := 26) hX (v := 13) dX25_taken_26 (by decide) ?_
    refine jj_icmp_eq (pc := 28) hX 37 dX25_taken_28 rfl (fun q => absurd q (by decide)) (fun _ => ?_)
    refine jj_iload_n (pc := 31) hX dX25_taken_31 rfl ?_
    refine jj_bipush (pc := 32) hX (v := 15) dX25_taken_32 (by decide) ?_
    refine jj_icmp_lt (pc := 34) hX 41 dX25_taken_34 rfl (fun q => absurd q (by decide)) (fun _ => ?_)
    refine jj_iconst (pc := 37) hX (v := 1) dX25_taken_37 (by decide) ?_
    refine jj_goto (pc := 38) hX 42 dX25_taken_38 rfl ?_
    exact jj_iret (pc := 42) hX dX25_taken_42 hr ⟨Nat.le_refl _, Nat.le_refl _⟩ (⟨rfl, rfl, rfl, rfl, rfl⟩)
  · refine jj_iload_n (pc := 0) hX dX25_taken_0 rfl ?_
    refine jj_iconst (pc := 1) hX (v := 4) dX25_taken_1 (by decide) ?_
    refine jj_icmp_lt (pc := 2) hX 15 dX25_taken_2 rfl (fun q => absurd q (by decide)) (fun _ => ?_)
    refine jj_iload_n (pc := 5) hX dX25_taken_5 rfl ?_
    refine jj_bipush (pc := 6) hX (v := 11) dX25_taken_6 (by decide) ?_
    refine jj_icmp_gt (pc := 8) hX 15 dX25_taken_8 rfl (fun _ => ?_) (fun q => absurd (by decide) q)
    refine jj_iload_n (pc := 15) hX dX25_taken_15 rfl ?_
    refine jj_iconst (pc := 16) hX (v := 2) dX25_taken_16 (by decide) ?_
    refine jj_icmp_eq (pc := 17) hX 37 dX25_taken_17 rfl (fun q => absurd q (by decide)) (fun _ => ?_)
    refine jj_iload_n (pc := 20) hX dX25_taken_20 rfl ?_
    refine jj_iconst (pc := 21) hX (v := 3) dX25_taken_21 (by decide) ?_
    refine jj_icmp_eq (pc := 22) hX 37 dX25_taken_22 rfl (fun q => absurd q (by decide)) (fun _ => ?_)
    refine jj_iload_n (pc := 25) hX dX25_taken_25 rfl ?_
    refine jj_bipush (pc := 26) hX (v := 13) dX25_taken_26 (by decide) ?_
    refine jj_icmp_eq (pc := 28) hX 37 dX25_taken_28 rfl (fun q => absurd q (by decide)) (fun _ => ?_)
    refine jj_iload_n (pc := 31) hX dX25_taken_31 rfl ?_
    refine jj_bipush (pc := 32) hX (v := 15) dX25_taken_32 (by decide) ?_
    refine jj_icmp_lt (pc := 34) hX 41 dX25_taken_34 rfl (fun q => absurd q (by decide)) (fun _ => ?_)
    refine jj_iconst (pc := 37) hX (v := 1) dX25_taken_37 (by decide) ?_
    refine jj_goto (pc := 38) hX 42 dX25_taken_38 rfl ?_
    exact jj_iret (pc := 42) hX dX25_taken_42 hr ⟨Nat.le_refl _, Nat.le_refl _⟩ (⟨rfl, rfl, rfl, rfl, rfl⟩)
  · refine jj_iload_n (pc := 0) hX dX25_taken_0 rfl ?_
    refine jj_iconst (pc := 1) hX (v := 4) dX25_taken_1 (by decide) ?_
    refine jj_icmp_lt (pc := 2) hX 15 dX25_taken_2 rfl (fun q => absurd q (by decide)) (fun _ => ?_)
    refine jj_iload_n (pc := 5) hX dX25_taken_5 rfl ?_
    refine jj_bipush (pc := 6) hX (v := 11) dX25_taken_6 (by decide) ?_
    refine jj_icmp_gt (pc := 8) hX 15 dX25_taken_8 rfl (fun _ => ?_) (fun q => absurd (by decide) q)
    refine jj_iload_n (pc := 15) hX dX25_taken_15 rfl ?_
    refine jj_iconst (pc := 16) hX (v := 2) dX25_taken_16 (by decide) ?_
    refine jj_icmp_eq (pc := 17) hX 37 dX25_taken_17 rfl (fun q => absurd q (by decide)) (fun _ => ?_)
    refine jj_iload_n (pc := 20) hX dX25_taken_20 rfl ?_
    refine jj_iconst (pc := 21) hX (v := 3) dX25_taken_21 (by decide) ?_
    refine jj_icmp_eq (pc := 22) hX 37 dX25_taken_22 rfl (fun q => absurd q (by decide)) (fun _ => ?_)
    refine jj_iload_n (pc := 25) hX dX25_taken_25 rfl ?_
    refine jj_bipush (pc := 26) hX (v := 13) dX25_taken_26 (by decide) ?_
    refine jj_icmp_eq (pc := 28) hX 37 dX25_taken_28 rfl (fun q => absurd q (by decide)) (fun _ => ?_)
    refine jj_iload_n (pc := 31) hX dX25_taken_31 rfl ?_
    refine jj_bipush (pc := 32) hX (v := 15) dX25_taken_32 (by decide) ?_
    refine jj_icmp_lt (pc := 34) hX 41 dX25_taken_34 rfl (fun q => absurd q (by decide)) (fun _ => ?_)
    refine jj_iconst (pc := 37) hX (v := 1) dX25_taken_37 (by decide) ?_
    refine jj_goto (pc := 38) hX 42 dX25_taken_38 rfl ?_
    exact jj_iret (pc := 42) hX dX25_taken_42 hr ⟨Nat.le_refl _, Nat.le_refl _⟩ (⟨rfl, rfl, rfl, rfl, rfl⟩)

theorem w_faultOf (G : jj_G) (σ : jm) (t j : Nat) (a : Int32) (x y : Int64) (ht : t < 85) (hj : j ≤ 21) : jm_M G yX25_faultOf cX25_faultOf 8 (some .int) 1 25 [jI (nI t), jI (nI j), jI a, jL x, jL y] σ σ (some (jI (m_fault t j a x y σ))) := by
  refine jj_intro "BranchCellsModel" (by decide) rfl (Nat.le_of_ble_eq_true rfl) ?_
  intro X hG hX hr hN hC hF
  subst hG
  rcases c22 hj with rfl | rfl | rfl | rfl | rfl | rfl | rfl | rfl | rfl | rfl | rfl | rfl | rfl | rfl | rfl | rfl | rfl | rfl | rfl | rfl | rfl | rfl
  · refine jj_iload_n (pc := 0) hX dX25_faultOf_0 rfl ?_
    refine jj_iconst (pc := 1) hX (v := 3) dX25_faultOf_1 (by decide) ?_
    refine jj_icmp_ne (pc := 2) hX 17 dX25_faultOf_2 rfl (fun _ => ?_) (fun q => absurd q (by decide))
    refine jj_iload_n (pc := 17) hX dX25_faultOf_17 rfl ?_
    refine jj_iconst (pc := 18) hX (v := 4) dX25_faultOf_18 (by decide) ?_
    refine jj_icmp_ne (pc := 19) hX 37 dX25_faultOf_19 rfl (fun _ => ?_) (fun q => absurd q (by decide))
    refine jj_iload_n (pc := 37) hX dX25_faultOf_37 rfl ?_
    refine jj_bipush (pc := 38) hX (v := 8) dX25_faultOf_38 (by decide) ?_
    refine jj_icmp_ne (pc := 40) hX 52 dX25_faultOf_40 rfl (fun _ => ?_) (fun q => absurd q (by decide))
    refine jj_iload_n (pc := 52) hX dX25_faultOf_52 rfl ?_
    refine jj_bipush (pc := 53) hX (v := 17) dX25_faultOf_53 (by decide) ?_
    refine jj_icmp_ne (pc := 55) hX 101 dX25_faultOf_55 rfl (fun _ => ?_) (fun q => absurd q (by decide))
    refine jj_iload_n (pc := 101) hX dX25_faultOf_101 rfl ?_
    refine jj_if_eq (pc := 102) hX 116 dX25_faultOf_102 rfl (fun _ => ?_) (fun q => absurd (by decide) q)
    refine jj_aload_n (pc := 116) hX dX25_faultOf_116 rfl ?_
    refine jj_getR (pc := 117) hX (x := some 32) fl_X25_93_25 dX25_faultOf_117 rfl rfl rfl ?_
    refine jj_iload_n (pc := 120) hX dX25_faultOf_120 rfl ?_
    refine jj_iald (pc := 121) hX t dX25_faultOf_121 rfl rfl rfl ⟨by omega, by omega⟩ ?_
    refine jj_bipush (pc := 122) hX (v := 12) dX25_faultOf_122 (by decide) ?_
    refine jj_icmp_ne (pc := 124) hX 130 dX25_faultOf_124 rfl (fun h124 => ?_) (fun h124 => ?_)
    · refine jj_iload_n (pc := 130) hX dX25_faultOf_130 rfl ?_
      refine jj_bipush (pc := 131) hX (v := 21) dX25_faultOf_131 (by decide) ?_
      refine jj_icmp_ne (pc := 133) hX 149 dX25_faultOf_133 rfl (fun _ => ?_) (fun q => absurd q (by decide))
      refine jj_iconst (pc := 149) hX (v := 0) dX25_faultOf_149 (by decide) ?_
      refine jj_iret (pc := 150) hX dX25_faultOf_150 hr ⟨Nat.le_refl _, Nat.le_refl _⟩ ?_
      unfold m_fault
      try dsimp only
      rw [if_neg h124]
      exact ⟨rfl, rfl, rfl, rfl, rfl⟩
    · refine jj_bipush (pc := 127) hX (v := 7) dX25_faultOf_127 (by decide) ?_
      refine jj_iret (pc := 129) hX dX25_faultOf_129 hr ⟨Nat.le_refl _, Nat.le_refl _⟩ ?_
      unfold m_fault
      try dsimp only
      rw [if_pos h124]
      exact ⟨rfl, rfl, rfl, rfl, rfl⟩
  · refine jj_iload_n (pc := 0) hX dX25_faultOf_0 rfl ?_
    refine jj_iconst (pc := 1) hX (v := 3) dX25_faultOf_1 (by decide) ?_
    refine jj_icmp_ne (pc := 2) hX 17 dX25_faultOf_2 rfl (fun _ => ?_) (fun q => absurd q (by decide))
    refine jj_iload_n (pc := 17) hX dX25_faultOf_17 rfl ?_
    refine jj_iconst (pc := 18) hX (v := 4) dX25_faultOf_18 (by decide) ?_
    refine jj_icmp_ne (pc := 19) hX 37 dX25_faultOf_19 rfl (fun _ => ?_) (fun q => absurd q (by decide))
    refine jj_iload_n (pc := 37) hX dX25_faultOf_37 rfl ?_
    refine jj_bipush (pc := 38) hX (v := 8) dX25_faultOf_38 (by decide) ?_
    refine jj_icmp_ne (pc := 40) hX 52 dX25_faultOf_40 rfl (fun _ => ?_) (fun q => absurd q (by decide))
    refine jj_iload_n (pc := 52) hX dX25_faultOf_52 rfl ?_
    refine jj_bipush (pc := 53) hX (v := 17) dX25_faultOf_53 (by decide) ?_
    refine jj_icmp_ne (pc := 55) hX 101 dX25_faultOf_55 rfl (fun _ => ?_) (fun q => absurd q (by decide))
    refine jj_iload_n (pc := 101) hX dX25_faultOf_101 rfl ?_
    refine jj_if_eq (pc := 102) hX 116 dX25_faultOf_102 rfl (fun q => absurd q (by decide)) (fun _ => ?_)
    refine jj_iload_n (pc := 105) hX dX25_faultOf_105 rfl ?_
    refine jj_iconst (pc := 106) hX (v := 1) dX25_faultOf_106 (by decide) ?_
    refine jj_icmp_eq (pc := 107) hX 116 dX25_faultOf_107 rfl (fun _ => ?_) (fun q => absurd (by decide) q)
    refine jj_aload_n (pc := 116) hX dX25_faultOf_116 rfl ?_
    refine jj_getR (pc := 117) hX (x := some 32) fl_X25_93_25 dX25_faultOf_117 rfl rfl rfl ?_
    refine jj_iload_n (pc := 120) hX dX25_faultOf_120 rfl ?_
    refine jj_iald (pc := 121) hX t dX25_faultOf_121 rfl rfl rfl ⟨by omega, by omega⟩ ?_
    refine jj_bipush (pc := 122) hX (v := 12) dX25_faultOf_122 (by decide) ?_
    refine jj_icmp_ne (pc := 124) hX 130 dX25_faultOf_124 rfl (fun h124 => ?_) (fun h124 => ?_)
    · refine jj_iload_n (pc := 130) hX dX25_faultOf_130 rfl ?_
      refine jj_bipush (pc := 131) hX (v := 21) dX25_faultOf_131 (by decide) ?_
      refine jj_icmp_ne (pc := 133) hX 149 dX25_faultOf_133 rfl (fun _ => ?_) (fun q => absurd q (by decide))
      refine jj_iconst (pc := 149) hX (v := 0) dX25_faultOf_149 (by decide) ?_
      refine jj_iret (pc := 150) hX dX25_faultOf_150 hr ⟨Nat.le_refl _, Nat.le_refl _⟩ ?_
      unfold m_fault
      try dsimp only
      rw [if_neg h124]
      exact ⟨rfl, rfl, rfl, rfl, rfl⟩
    · refine jj_bipush (pc := 127) hX (v := 7) dX25_faultOf_127 (by decide) ?_
      refine jj_iret (pc := 129) hX dX25_faultOf_129 hr ⟨Nat.le_refl _, Nat.le_refl _⟩ ?_
      unfold m_fault
      try dsimp only
      rw [if_pos h124]
      exact ⟨rfl, rfl, rfl, rfl, rfl⟩
  · refine jj_iload_n (pc := 0) hX dX25_faultOf_0 rfl ?_
    refine jj_iconst (pc := 1) hX (v := 3) dX25_faultOf_1 (by decide) ?_
    refine jj_icmp_ne (pc := 2) hX 17 dX25_faultOf_2 rfl (fun _ => ?_) (fun q => absurd q (by decide))
    refine jj_iload_n (pc := 17) hX dX25_faultOf_17 rfl ?_
    refine jj_iconst (pc := 18) hX (v := 4) dX25_faultOf_18 (by decide) ?_
    refine jj_icmp_ne (pc := 19) hX 37 dX25_faultOf_19 rfl (fun _ => ?_) (fun q => absurd q (by decide))
    refine jj_iload_n (pc := 37) hX dX25_faultOf_37 rfl ?_
    refine jj_bipush (pc := 38) hX (v := 8) dX25_faultOf_38 (by decide) ?_
    refine jj_icmp_ne (pc := 40) hX 52 dX25_faultOf_40 rfl (fun _ => ?_) (fun q => absurd q (by decide))
    refine jj_iload_n (pc := 52) hX dX25_faultOf_52 rfl ?_
    refine jj_bipush (pc := 53) hX (v := 17) dX25_faultOf_53 (by decide) ?_
    refine jj_icmp_ne (pc := 55) hX 101 dX25_faultOf_55 rfl (fun _ => ?_) (fun q => absurd q (by decide))
    refine jj_iload_n (pc := 101) hX dX25_faultOf_101 rfl ?_
    refine jj_if_eq (pc := 102) hX 116 dX25_faultOf_102 rfl (fun q => absurd q (by decide)) (fun _ => ?_)
    refine jj_iload_n (pc := 105) hX dX25_faultOf_105 rfl ?_
    refine jj_iconst (pc := 106) hX (v := 1) dX25_faultOf_106 (by decide) ?_
    refine jj_icmp_eq (pc := 107) hX 116 dX25_faultOf_107 rfl (fun q => absurd q (by decide)) (fun _ => ?_)
    refine jj_iload_n (pc := 110) hX dX25_faultOf_110 rfl ?_
    refine jj_bipush (pc := 111) hX (v := 14) dX25_faultOf_111 (by decide) ?_
    refine jj_icmp_ne (pc := 113) hX 130 dX25_faultOf_113 rfl (fun _ => ?_) (fun q => absurd q (by decide))
    refine jj_iload_n (pc := 130) hX dX25_faultOf_130 rfl ?_
    refine jj_bipush (pc := 131) hX (v := 21) dX25_faultOf_131 (by decide) ?_
    refine jj_icmp_ne (pc := 133) hX 149 dX25_faultOf_133 rfl (fun _ => ?_) (fun q => absurd q (by decide))
    refine jj_iconst (pc := 149) hX (v := 0) dX25_faultOf_149 (by decide) ?_
    refine jj_iret (pc := 150) hX dX25_faultOf_150 hr ⟨Nat.le_refl _, Nat.le_refl _⟩ ?_
    unfold m_fault
    exact ⟨rfl, rfl, rfl, rfl, rfl⟩
  · refine jj_iload_n (pc := 0) hX dX25_faultOf_0 rfl ?_
    refine jj_iconst (pc := 1) hX (v := 3) dX25_faultOf_1 (by decide) ?_
    refine jj_icmp_ne (pc := 2) hX 17 dX25_faultOf_2 rfl (fun q => absurd (by decide) q) (fun _ => ?_)
    refine jj_lload (pc := 5) hX dX25_faultOf_5 rfl ?_
    refine jj_lconst (pc := 7) hX (v := 0) dX25_faultOf_7 (by decide) ?_
    refine jj_ldc2 (pc := 8) hX (v := 15) q1592 dX25_faultOf_8 ?_
    refine jj_callS (pc := 11) hX (w_in X.1 _ _ _ _ _ _ _) dX25_faultOf_11 (lw_S q1588 q1589 q78 q1590) ⟨by decide +kernel, by decide +kernel, by show _ = some (3 : Nat); decide +kernel⟩ ⟨Nat.le_of_ble_eq_true rfl, Nat.le_of_ble_eq_true rfl, Nat.le_of_ble_eq_true rfl, Nat.le_of_ble_eq_true rfl, Nat.le_of_ble_eq_true rfl⟩ (fun q => by cases q) rfl (jj_kif (fun hin => ?_) (fun hin => ?_)) jj_kno
    · refine jj_if_eq (pc := 14) hX 34 dX25_faultOf_14 rfl (fun q => absurd q (by decide)) (fun _ => ?_)
      refine jj_iload_n (pc := 17) hX dX25_faultOf_17 rfl ?_
      refine jj_iconst (pc := 18) hX (v := 4) dX25_faultOf_18 (by decide) ?_
      refine jj_icmp_ne (pc := 19) hX 37 dX25_faultOf_19 rfl (fun _ => ?_) (fun q => absurd q (by decide))
      refine jj_iload_n (pc := 37) hX dX25_faultOf_37 rfl ?_
      refine jj_bipush (pc := 38) hX (v := 8) dX25_faultOf_38 (by decide) ?_
      refine jj_icmp_ne (pc := 40) hX 52 dX25_faultOf_40 rfl (fun _ => ?_) (fun q => absurd q (by decide))
      refine jj_iload_n (pc := 52) hX dX25_faultOf_52 rfl ?_
      refine jj_bipush (pc := 53) hX (v := 17) dX25_faultOf_53 (by decide) ?_
      refine jj_icmp_ne (pc := 55) hX 101 dX25_faultOf_55 rfl (fun _ => ?_) (fun q => absurd q (by decide))
      refine jj_iload_n (pc := 101) hX dX25_faultOf_101 rfl ?_
      refine jj_if_eq (pc := 102) hX 116 dX25_faultOf_102 rfl (fun q => absurd q (by decide)) (fun _ => ?_)
      refine jj_iload_n (pc := 105) hX dX25_faultOf_105 rfl ?_
      refine jj_iconst (pc := 106) hX (v := 1) dX25_faultOf_106 (by decide) ?_
      refine jj_icmp_eq (pc := 107) hX 116 dX25_faultOf_107 rfl (fun q => absurd q (by decide)) (fun _ => ?_)
      refine jj_iload_n (pc := 110) hX dX25_faultOf_110 rfl ?_
      refine jj_bipush (pc := 111) hX (v := 14) dX25_faultOf_111 (by decide) ?_
      refine jj_icmp_ne (pc := 113) hX 130 dX25_faultOf_113 rfl (fun _ => ?_) (fun q => absurd q (by decide))
      refine jj_iload_n (pc := 130) hX dX25_faultOf_130 rfl ?_
      refine jj_bipush (pc := 131) hX (v := 21) dX25_faultOf_131 (by decide) ?_
      refine jj_icmp_ne (pc := 133) hX 149 dX25_faultOf_133 rfl (fun _ => ?_) (fun q => absurd q (by decide))
      refine jj_iconst (pc := 149) hX (v := 0) dX25_faultOf_149 (by decide) ?_
      refine jj_iret (pc := 150) hX dX25_faultOf_150 hr ⟨Nat.le_refl _, Nat.le_refl _⟩ ?_
      unfold m_fault
      try dsimp only
      rw [if_pos hin]
      exact ⟨rfl, rfl, rfl, rfl, rfl⟩
    · refine jj_if_eq (pc := 14) hX 34 dX25_faultOf_14 rfl (fun _ => ?_) (fun q => absurd (by decide) q)
      refine jj_bipush (pc := 34) hX (v := 9) dX25_faultOf_34 (by decide) ?_
      refine jj_iret (pc := 36) hX dX25_faultOf_36 hr ⟨Nat.le_refl _, Nat.le_refl _⟩ ?_
      unfold m_fault
      try dsimp only
      rw [if_neg hin]
      exact ⟨rfl, rfl, rfl, rfl, rfl⟩
  · refine jj_iload_n (pc := 0) hX dX25_faultOf_0 rfl ?_
    refine jj_iconst (pc := 1) hX (v := 3) dX25_faultOf_1 (by decide) ?_
    refine jj_icmp_ne (pc := 2) hX 17 dX25_faultOf_2 rfl (fun _ => ?_) (fun q => absurd q (by decide))
    refine jj_iload_n (pc := 17) hX dX25_faultOf_17 rfl ?_
    refine jj_iconst (pc := 18) hX (v := 4) dX25_faultOf_18 (by decide) ?_
    refine jj_icmp_ne (pc := 19) hX 37 dX25_faultOf_19 rfl (fun q => absurd (by decide) q) (fun _ => ?_)
    refine jj_lload (pc := 22) hX dX25_faultOf_22 rfl ?_
    refine jj_lconst (pc := 24) hX (v := 0) dX25_faultOf_24 (by decide) ?_
    refine jj_ldc2 (pc := 25) hX (v := 15) q1592 dX25_faultOf_25 ?_
    refine jj_callS (pc := 28) hX (w_in X.1 _ _ _ _ _ _ _) dX25_faultOf_28 (lw_S q1588 q1589 q78 q1590) ⟨by decide +kernel, by decide +kernel, by show _ = some (3 : Nat); decide +kernel⟩ ⟨Nat.le_of_ble_eq_true rfl, Nat.le_of_ble_eq_true rfl, Nat.le_of_ble_eq_true rfl, Nat.le_of_ble_eq_true rfl, Nat.le_of_ble_eq_true rfl⟩ (fun q => by cases q) rfl (jj_kif (fun hin => ?_) (fun hin => ?_)) jj_kno
    · refine jj_if_ne (pc := 31) hX 37 dX25_faultOf_31 rfl (fun _ => ?_) (fun q => absurd q (by decide))
      refine jj_iload_n (pc := 37) hX dX25_faultOf_37 rfl ?_
      refine jj_bipush (pc := 38) hX (v := 8) dX25_faultOf_38 (by decide) ?_
      refine jj_icmp_ne (pc := 40) hX 52 dX25_faultOf_40 rfl (fun _ => ?_) (fun q => absurd q (by decide))
      refine jj_iload_n (pc := 52) hX dX25_faultOf_52 rfl ?_
      refine jj_bipush (pc := 53) hX (v := 17) dX25_faultOf_53 (by decide) ?_
      refine jj_icmp_ne (pc := 55) hX 101 dX25_faultOf_55 rfl (fun _ => ?_) (fun q => absurd q (by decide))
      refine jj_iload_n (pc := 101) hX dX25_faultOf_101 rfl ?_
      refine jj_if_eq (pc := 102) hX 116 dX25_faultOf_102 rfl (fun q => absurd q (by decide)) (fun _ => ?_)
      refine jj_iload_n (pc := 105) hX dX25_faultOf_105 rfl ?_
      refine jj_iconst (pc := 106) hX (v := 1) dX25_faultOf_106 (by decide) ?_
      refine jj_icmp_eq (pc := 107) hX 116 dX25_faultOf_107 rfl (fun q => absurd q (by decide)) (fun _ => ?_)
      refine jj_iload_n (pc := 110) hX dX25_faultOf_110 rfl ?_
      refine jj_bipush (pc := 111) hX (v := 14) dX25_faultOf_111 (by decide) ?_
      refine jj_icmp_ne (pc := 113) hX 130 dX25_faultOf_113 rfl (fun _ => ?_) (fun q => absurd q (by decide))
      refine jj_iload_n (pc := 130) hX dX25_faultOf_130 rfl ?_
      refine jj_bipush (pc := 131) hX (v := 21) dX25_faultOf_131 (by decide) ?_
      refine jj_icmp_ne (pc := 133) hX 149 dX25_faultOf_133 rfl (fun _ => ?_) (fun q => absurd q (by decide))
      refine jj_iconst (pc := 149) hX (v := 0) dX25_faultOf_149 (by decide) ?_
      refine jj_iret (pc := 150) hX dX25_faultOf_150 hr ⟨Nat.le_refl _, Nat.le_refl _⟩ ?_
      unfold m_fault
      try dsimp only
      rw [if_pos hin]
      exact ⟨rfl, rfl, rfl, rfl, rfl⟩
    · refine jj_if_ne (pc := 31) hX 37 dX25_faultOf_31 rfl (fun q => absurd (by decide) q) (fun _ => ?_)
      refine jj_bipush (pc := 34) hX (v := 9) dX25_faultOf_34 (by decide) ?_
      refine jj_iret (pc := 36) hX dX25_faultOf_36 hr ⟨Nat.le_refl _, Nat.le_refl _⟩ ?_
      unfold m_fault
      try dsimp only
      rw [if_neg hin]
      exact ⟨rfl, rfl, rfl, rfl, rfl⟩
  · refine jj_iload_n (pc := 0) hX dX25_faultOf_0 rfl ?_
    refine jj_iconst (pc := 1) hX (v := 3) dX25_faultOf_1 (by decide) ?_
    refine jj_icmp_ne (pc := 2) hX 17 dX25_faultOf_2 rfl (fun _ => ?_) (fun q => absurd q (by decide))
    refine jj_iload_n (pc := 17) hX dX25_faultOf_17 rfl ?_
    refine jj_iconst (pc := 18) hX (v := 4) dX25_faultOf_18 (by decide) ?_
    refine jj_icmp_ne (pc := 19) hX 37 dX25_faultOf_19 rfl (fun _ => ?_) (fun q => absurd q (by decide))
    refine jj_iload_n (pc := 37) hX dX25_faultOf_37 rfl ?_
    refine jj_bipush (pc := 38) hX (v := 8) dX25_faultOf_38 (by decide) ?_
    refine jj_icmp_ne (pc := 40) hX 52 dX25_faultOf_40 rfl (fun _ => ?_) (fun q => absurd q (by decide))
    refine jj_iload_n (pc := 52) hX dX25_faultOf_52 rfl ?_
    refine jj_bipush (pc := 53) hX (v := 17) dX25_faultOf_53 (by decide) ?_
    refine jj_icmp_ne (pc := 55) hX 101 dX25_faultOf_55 rfl (fun _ => ?_) (fun q => absurd q (by decide))
    refine jj_iload_n (pc := 101) hX dX25_faultOf_101 rfl ?_
    refine jj_if_eq (pc := 102) hX 116 dX25_faultOf_102 rfl (fun q => absurd q (by decide)) (fun _ => ?_)
    refine jj_iload_n (pc := 105) hX dX25_faultOf_105 rfl ?_
    refine jj_iconst (pc := 106) hX (v := 1) dX25_faultOf_106 (by decide) ?_
    refine jj_icmp_eq (pc := 107) hX 116 dX25_faultOf_107 rfl (fun q => absurd q (by decide)) (fun _ => ?_)
    refine jj_iload_n (pc := 110) hX dX25_faultOf_110 rfl ?_
    refine jj_bipush (pc := 111) hX (v := 14) dX25_faultOf_111 (by decide) ?_
    refine jj_icmp_ne (pc := 113) hX 130 dX25_faultOf_113 rfl (fun _ => ?_) (fun q => absurd q (by decide))
    refine jj_iload_n (pc := 130) hX dX25_faultOf_130 rfl ?_
    refine jj_bipush (pc := 131) hX (v := 21) dX25_faultOf_131 (by decide) ?_
    refine jj_icmp_ne (pc := 133) hX 149 dX25_faultOf_133 rfl (fun _ => ?_) (fun q => absurd q (by decide))
    refine jj_iconst (pc := 149) hX (v := 0) dX25_faultOf_149 (by decide) ?_
    refine jj_iret (pc := 150) hX dX25_faultOf_150 hr ⟨Nat.le_refl _, Nat.le_refl _⟩ ?_
    unfold m_fault
    exact ⟨rfl, rfl, rfl, rfl, rfl⟩
  · refine jj_iload_n (pc := 0) hX dX25_faultOf_0 rfl ?_
    refine jj_iconst (pc := 1) hX (v := 3) dX25_faultOf_1 (by decide) ?_
    refine jj_icmp_ne (pc := 2) hX 17 dX25_faultOf_2 rfl (fun _ => ?_) (fun q => absurd q (by decide))
    refine jj_iload_n (pc := 17) hX dX25_faultOf_17 rfl ?_
    refine jj_iconst (pc := 18) hX (v := 4) dX25_faultOf_18 (by decide) ?_
    refine jj_icmp_ne (pc := 19) hX 37 dX25_faultOf_19 rfl (fun _ => ?_) (fun q => absurd q (by decide))
    refine jj_iload_n (pc := 37) hX dX25_faultOf_37 rfl ?_
    refine jj_bipush (pc := 38) hX (v := 8) dX25_faultOf_38 (by decide) ?_
    refine jj_icmp_ne (pc := 40) hX 52 dX25_faultOf_40 rfl (fun _ => ?_) (fun q => absurd q (by decide))
    refine jj_iload_n (pc := 52) hX dX25_faultOf_52 rfl ?_
    refine jj_bipush (pc := 53) hX (v := 17) dX25_faultOf_53 (by decide) ?_
    refine jj_icmp_ne (pc := 55) hX 101 dX25_faultOf_55 rfl (fun _ => ?_) (fun q => absurd q (by decide))
    refine jj_iload_n (pc := 101) hX dX25_faultOf_101 rfl ?_
    refine jj_if_eq (pc := 102) hX 116 dX25_faultOf_102 rfl (fun q => absurd q (by decide)) (fun _ => ?_)
    refine jj_iload_n (pc := 105) hX dX25_faultOf_105 rfl ?_
    refine jj_iconst (pc := 106) hX (v := 1) dX25_faultOf_106 (by decide) ?_
    refine jj_icmp_eq (pc := 107) hX 116 dX25_faultOf_107 rfl (fun q => absurd q (by decide)) (fun _ => ?_)
    refine jj_iload_n (pc := 110) hX dX25_faultOf_110 rfl ?_
    refine jj_bipush (pc := 111) hX (v := 14) dX25_faultOf_111 (by decide) ?_
    refine jj_icmp_ne (pc := 113) hX 130 dX25_faultOf_113 rfl (fun _ => ?_) (fun q => absurd q (by decide))
    refine jj_iload_n (pc := 130) hX dX25_faultOf_130 rfl ?_
    refine jj_bipush (pc := 131) hX (v := 21) dX25_faultOf_131 (by decide) ?_
    refine jj_icmp_ne (pc := 133) hX 149 dX25_faultOf_133 rfl (fun _ => ?_) (fun q => absurd q (by decide))
    refine jj_iconst (pc := 149) hX (v := 0) dX25_faultOf_149 (by decide) ?_
    refine jj_iret (pc := 150) hX dX25_faultOf_150 hr ⟨Nat.le_refl _, Nat.le_refl _⟩ ?_
    unfold m_fault
    exact ⟨rfl, rfl, rfl, rfl, rfl⟩
  · refine jj_iload_n (pc := 0) hX dX25_faultOf_0 rfl ?_
    refine jj_iconst (pc := 1) hX (v := 3) dX25_faultOf_1 (by decide) ?_
    refine jj_icmp_ne (pc := 2) hX 17 dX25_faultOf_2 rfl (fun _ => ?_) (fun q => absurd q (by decide))
    refine jj_iload_n (pc := 17) hX dX25_faultOf_17 rfl ?_
    refine jj_iconst (pc := 18) hX (v := 4) dX25_faultOf_18 (by decide) ?_
    refine jj_icmp_ne (pc := 19) hX 37 dX25_faultOf_19 rfl (fun _ => ?_) (fun q => absurd q (by decide))
    refine jj_iload_n (pc := 37) hX dX25_faultOf_37 rfl ?_
    refine jj_bipush (pc := 38) hX (v := 8) dX25_faultOf_38 (by decide) ?_
    refine jj_icmp_ne (pc := 40) hX 52 dX25_faultOf_40 rfl (fun _ => ?_) (fun q => absurd q (by decide))
    refine jj_iload_n (pc := 52) hX dX25_faultOf_52 rfl ?_
    refine jj_bipush (pc := 53) hX (v := 17) dX25_faultOf_53 (by decide) ?_
    refine jj_icmp_ne (pc := 55) hX 101 dX25_faultOf_55 rfl (fun _ => ?_) (fun q => absurd q (by decide))
    refine jj_iload_n (pc := 101) hX dX25_faultOf_101 rfl ?_
    refine jj_if_eq (pc := 102) hX 116 dX25_faultOf_102 rfl (fun q => absurd q (by decide)) (fun _ => ?_)
    refine jj_iload_n (pc := 105) hX dX25_faultOf_105 rfl ?_
    refine jj_iconst (pc := 106) hX (v := 1) dX25_faultOf_106 (by decide) ?_
    refine jj_icmp_eq (pc := 107) hX 116 dX25_faultOf_107 rfl (fun q => absurd q (by decide)) (fun _ => ?_)
    refine jj_iload_n (pc := 110) hX dX25_faultOf_110 rfl ?_
    refine jj_bipush (pc := 111) hX (v := 14) dX25_faultOf_111 (by decide) ?_
    refine jj_icmp_ne (pc := 113) hX 130 dX25_faultOf_113 rfl (fun _ => ?_) (fun q => absurd q (by decide))
    refine jj_iload_n (pc := 130) hX dX25_faultOf_130 rfl ?_
    refine jj_bipush (pc := 131) hX (v := 21) dX25_faultOf_131 (by decide) ?_
    refine jj_icmp_ne (pc := 133) hX 149 dX25_faultOf_133 rfl (fun _ => ?_) (fun q => absurd q (by decide))
    refine jj_iconst (pc := 149) hX (v := 0) dX25_faultOf_149 (by decide) ?_
    refine jj_iret (pc := 150) hX dX25_faultOf_150 hr ⟨Nat.le_refl _, Nat.le_refl _⟩ ?_
    unfold m_fault
    exact ⟨rfl, rfl, rfl, rfl, rfl⟩
  · refine jj_iload_n (pc := 0) hX dX25_faultOf_0 rfl ?_
    refine jj_iconst (pc := 1) hX (v := 3) dX25_faultOf_1 (by decide) ?_
    refine jj_icmp_ne (pc := 2) hX 17 dX25_faultOf_2 rfl (fun _ => ?_) (fun q => absurd q (by decide))
    refine jj_iload_n (pc := 17) hX dX25_faultOf_17 rfl ?_
    refine jj_iconst (pc := 18) hX (v := 4) dX25_faultOf_18 (by decide) ?_
    refine jj_icmp_ne (pc := 19) hX 37 dX25_faultOf_19 rfl (fun _ => ?_) (fun q => absurd q (by decide))
    refine jj_iload_n (pc := 37) hX dX25_faultOf_37 rfl ?_
    refine jj_bipush (pc := 38) hX (v := 8) dX25_faultOf_38 (by decide) ?_
    refine jj_icmp_ne (pc := 40) hX 52 dX25_faultOf_40 rfl (fun q => absurd (by decide) q) (fun _ => ?_)
    refine jj_lload (pc := 43) hX dX25_faultOf_43 rfl ?_
    refine jj_lconst (pc := 45) hX (v := 0) dX25_faultOf_45 (by decide) ?_
    refine jj_lcmp (pc := 46) hX dX25_faultOf_46 ?_
    refine jj_if_ne (pc := 47) hX 52 dX25_faultOf_47 rfl (fun h47 => ?_) (fun h47 => ?_)
    · have h47 := (not_congr (lg_cmp_eq y 0)).mp h47
      refine jj_iload_n (pc := 52) hX dX25_faultOf_52 rfl ?_
      refine jj_bipush (pc := 53) hX (v := 17) dX25_faultOf_53 (by decide) ?_
      refine jj_icmp_ne (pc := 55) hX 101 dX25_faultOf_55 rfl (fun _ => ?_) (fun q => absurd q (by decide))
      refine jj_iload_n (pc := 101) hX dX25_faultOf_101 rfl ?_
      refine jj_if_eq (pc := 102) hX 116 dX25_faultOf_102 rfl (fun q => absurd q (by decide)) (fun _ => ?_)
      refine jj_iload_n (pc := 105) hX dX25_faultOf_105 rfl ?_
      refine jj_iconst (pc := 106) hX (v := 1) dX25_faultOf_106 (by decide) ?_
      refine jj_icmp_eq (pc := 107) hX 116 dX25_faultOf_107 rfl (fun q => absurd q (by decide)) (fun _ => ?_)
      refine jj_iload_n (pc := 110) hX dX25_faultOf_110 rfl ?_
      refine jj_bipush (pc := 111) hX (v := 14) dX25_faultOf_111 (by decide) ?_
      refine jj_icmp_ne (pc := 113) hX 130 dX25_faultOf_113 rfl (fun _ => ?_) (fun q => absurd q (by decide))
      refine jj_iload_n (pc := 130) hX dX25_faultOf_130 rfl ?_
      refine jj_bipush (pc := 131) hX (v := 21) dX25_faultOf_131 (by decide) ?_
      refine jj_icmp_ne (pc := 133) hX 149 dX25_faultOf_133 rfl (fun _ => ?_) (fun q => absurd q (by decide))
      refine jj_iconst (pc := 149) hX (v := 0) dX25_faultOf_149 (by decide) ?_
      refine jj_iret (pc := 150) hX dX25_faultOf_150 hr ⟨Nat.le_refl _, Nat.le_refl _⟩ ?_
      unfold m_fault
      try dsimp only
      rw [if_neg h47]
      exact ⟨rfl, rfl, rfl, rfl, rfl⟩
    · have h47 := (lg_cmp_eq y 0).mp h47
      refine jj_iconst (pc := 50) hX (v := 1) dX25_faultOf_50 (by decide) ?_
      refine jj_iret (pc := 51) hX dX25_faultOf_51 hr ⟨Nat.le_refl _, Nat.le_refl _⟩ ?_
      unfold m_fault
      try dsimp only
      rw [if_pos h47]
      exact ⟨rfl, rfl, rfl, rfl, rfl⟩
  · refine jj_iload_n (pc := 0) hX dX25_faultOf_0 rfl ?_
    refine jj_iconst (pc := 1) hX (v := 3) dX25_faultOf_1 (by decide) ?_
    refine jj_icmp_ne (pc := 2) hX 17 dX25_faultOf_2 rfl (fun _ => ?_) (fun q => absurd q (by decide))
    refine jj_iload_n (pc := 17) hX dX25_faultOf_17 rfl ?_
    refine jj_iconst (pc := 18) hX (v := 4) dX25_faultOf_18 (by decide) ?_
    refine jj_icmp_ne (pc := 19) hX 37 dX25_faultOf_19 rfl (fun _ => ?_) (fun q => absurd q (by decide))
    refine jj_iload_n (pc := 37) hX dX25_faultOf_37 rfl ?_
    refine jj_bipush (pc := 38) hX (v := 8) dX25_faultOf_38 (by decide) ?_
    refine jj_icmp_ne (pc := 40) hX 52 dX25_faultOf_40 rfl (fun _ => ?_) (fun q => absurd q (by decide))
    refine jj_iload_n (pc := 52) hX dX25_faultOf_52 rfl ?_
    refine jj_bipush (pc := 53) hX (v := 17) dX25_faultOf_53 (by decide) ?_
    refine jj_icmp_ne (pc := 55) hX 101 dX25_faultOf_55 rfl (fun _ => ?_) (fun q => absurd q (by decide))
    refine jj_iload_n (pc := 101) hX dX25_faultOf_101 rfl ?_
    refine jj_if_eq (pc := 102) hX 116 dX25_faultOf_102 rfl (fun q => absurd q (by decide)) (fun _ => ?_)
    refine jj_iload_n (pc := 105) hX dX25_faultOf_105 rfl ?_
    refine jj_iconst (pc := 106) hX (v := 1) dX25_faultOf_106 (by decide) ?_
    refine jj_icmp_eq (pc := 107) hX 116 dX25_faultOf_107 rfl (fun q => absurd q (by decide)) (fun _ => ?_)
    refine jj_iload_n (pc := 110) hX dX25_faultOf_110 rfl ?_
    refine jj_bipush (pc := 111) hX (v := 14) dX25_faultOf_111 (by decide) ?_
    refine jj_icmp_ne (pc := 113) hX 130 dX25_faultOf_113 rfl (fun _ => ?_) (fun q => absurd q (by decide))
    refine jj_iload_n (pc := 130) hX dX25_faultOf_130 rfl ?_
    refine jj_bipush (pc := 131) hX (v := 21) dX25_faultOf_131 (by decide) ?_
    refine jj_icmp_ne (pc := 133) hX 149 dX25_faultOf_133 rfl (fun _ => ?_) (fun q => absurd q (by decide))
    refine jj_iconst (pc := 149) hX (v := 0) dX25_faultOf_149 (by decide) ?_
    refine jj_iret (pc := 150) hX dX25_faultOf_150 hr ⟨Nat.le_refl _, Nat.le_refl _⟩ ?_
    unfold m_fault
    exact ⟨rfl, rfl, rfl, rfl, rfl⟩
  · refine jj_iload_n (pc := 0) hX dX25_faultOf_0 rfl ?_
    refine jj_iconst (pc := 1) hX (v := 3) dX25_faultOf_1 (by decide) ?_
    refine jj_icmp_ne (pc := 2) hX 17 dX25_faultOf_2 rfl (fun _ => ?_) (fun q => absurd q (by decide))
    refine jj_iload_n (pc := 17) hX dX25_faultOf_17 rfl ?_
    refine jj_iconst (pc := 18) hX (v := 4) dX25_faultOf_18 (by decide) ?_
    refine jj_icmp_ne (pc := 19) hX 37 dX25_faultOf_19 rfl (fun _ => ?_) (fun q => absurd q (by decide))
    refine jj_iload_n (pc := 37) hX dX25_faultOf_37 rfl ?_
    refine jj_bipush (pc := 38) hX (v := 8) dX25_faultOf_38 (by decide) ?_
    refine jj_icmp_ne (pc := 40) hX 52 dX25_faultOf_40 rfl (fun _ => ?_) (fun q => absurd q (by decide))
    refine jj_iload_n (pc := 52) hX dX25_faultOf_52 rfl ?_
    refine jj_bipush (pc := 53) hX (v := 17) dX25_faultOf_53 (by decide) ?_
    refine jj_icmp_ne (pc := 55) hX 101 dX25_faultOf_55 rfl (fun _ => ?_) (fun q => absurd q (by decide))
    refine jj_iload_n (pc := 101) hX dX25_faultOf_101 rfl ?_
    refine jj_if_eq (pc := 102) hX 116 dX25_faultOf_102 rfl (fun q => absurd q (by decide)) (fun _ => ?_)
    refine jj_iload_n (pc := 105) hX dX25_faultOf_105 rfl ?_
    refine jj_iconst (pc := 106) hX (v := 1) dX25_faultOf_106 (by decide) ?_
    refine jj_icmp_eq (pc := 107) hX 116 dX25_faultOf_107 rfl (fun q => absurd q (by decide)) (fun _ => ?_)
    refine jj_iload_n (pc := 110) hX dX25_faultOf_110 rfl ?_
    refine jj_bipush (pc := 111) hX (v := 14) dX25_faultOf_111 (by decide) ?_
    refine jj_icmp_ne (pc := 113) hX 130 dX25_faultOf_113 rfl (fun _ => ?_) (fun q => absurd q (by decide))
    refine jj_iload_n (pc := 130) hX dX25_faultOf_130 rfl ?_
    refine jj_bipush (pc := 131) hX (v := 21) dX25_faultOf_131 (by decide) ?_
    refine jj_icmp_ne (pc := 133) hX 149 dX25_faultOf_133 rfl (fun _ => ?_) (fun q => absurd q (by decide))
    refine jj_iconst (pc := 149) hX (v := 0) dX25_faultOf_149 (by decide) ?_
    refine jj_iret (pc := 150) hX dX25_faultOf_150 hr ⟨Nat.le_refl _, Nat.le_refl _⟩ ?_
    unfold m_fault
    exact ⟨rfl, rfl, rfl, rfl, rfl⟩
  · refine jj_iload_n (pc := 0) hX dX25_faultOf_0 rfl ?_
    refine jj_iconst (pc := 1) hX (v := 3) dX25_faultOf_1 (by decide) ?_
    refine jj_icmp_ne (pc := 2) hX 17 dX25_faultOf_2 rfl (fun _ => ?_) (fun q => absurd q (by decide))
    refine jj_iload_n (pc := 17) hX dX25_faultOf_17 rfl ?_
    refine jj_iconst (pc := 18) hX (v := 4) dX25_faultOf_18 (by decide) ?_
    refine jj_icmp_ne (pc := 19) hX 37 dX25_faultOf_19 rfl (fun _ => ?_) (fun q => absurd q (by decide))
    refine jj_iload_n (pc := 37) hX dX25_faultOf_37 rfl ?_
    refine jj_bipush (pc := 38) hX (v := 8) dX25_faultOf_38 (by decide) ?_
    refine jj_icmp_ne (pc := 40) hX 52 dX25_faultOf_40 rfl (fun _ => ?_) (fun q => absurd q (by decide))
    refine jj_iload_n (pc := 52) hX dX25_faultOf_52 rfl ?_
    refine jj_bipush (pc := 53) hX (v := 17) dX25_faultOf_53 (by decide) ?_
    refine jj_icmp_ne (pc := 55) hX 101 dX25_faultOf_55 rfl (fun _ => ?_) (fun q => absurd q (by decide))
    refine jj_iload_n (pc := 101) hX dX25_faultOf_101 rfl ?_
    refine jj_if_eq (pc := 102) hX 116 dX25_faultOf_102 rfl (fun q => absurd q (by decide)) (fun _ => ?_)
    refine jj_iload_n (pc := 105) hX dX25_faultOf_105 rfl ?_
    refine jj_iconst (pc := 106) hX (v := 1) dX25_faultOf_106 (by decide) ?_
    refine jj_icmp_eq (pc := 107) hX 116 dX25_faultOf_107 rfl (fun q => absurd q (by decide)) (fun _ => ?_)
    refine jj_iload_n (pc := 110) hX dX25_faultOf_110 rfl ?_
    refine jj_bipush (pc := 111) hX (v := 14) dX25_faultOf_111 (by decide) ?_
    refine jj_icmp_ne (pc := 113) hX 130 dX25_faultOf_113 rfl (fun _ => ?_) (fun q => absurd q (by decide))
    refine jj_iload_n (pc := 130) hX dX25_faultOf_130 rfl ?_
    refine jj_bipush (pc := 131) hX (v := 21) dX25_faultOf_131 (by decide) ?_
    refine jj_icmp_ne (pc := 133) hX 149 dX25_faultOf_133 rfl (fun _ => ?_) (fun q => absurd q (by decide))
    refine jj_iconst (pc := 149) hX (v := 0) dX25_faultOf_149 (by decide) ?_
    refine jj_iret (pc := 150) hX dX25_faultOf_150 hr ⟨Nat.le_refl _, Nat.le_refl _⟩ ?_
    unfold m_fault
    exact ⟨rfl, rfl, rfl, rfl, rfl⟩
  · refine jj_iload_n (pc := 0) hX dX25_faultOf_0 rfl ?_
    refine jj_iconst (pc := 1) hX (v := 3) dX25_faultOf_1 (by decide) ?_
    refine jj_icmp_ne (pc := 2) hX 17 dX25_faultOf_2 rfl (fun _ => ?_) (fun q => absurd q (by decide))
    refine jj_iload_n (pc := 17) hX dX25_faultOf_17 rfl ?_
    refine jj_iconst (pc := 18) hX (v := 4) dX25_faultOf_18 (by decide) ?_
    refine jj_icmp_ne (pc := 19) hX 37 dX25_faultOf_19 rfl (fun _ => ?_) (fun q => absurd q (by decide))
    refine jj_iload_n (pc := 37) hX dX25_faultOf_37 rfl ?_
    refine jj_bipush (pc := 38) hX (v := 8) dX25_faultOf_38 (by decide) ?_
    refine jj_icmp_ne (pc := 40) hX 52 dX25_faultOf_40 rfl (fun _ => ?_) (fun q => absurd q (by decide))
    refine jj_iload_n (pc := 52) hX dX25_faultOf_52 rfl ?_
    refine jj_bipush (pc := 53) hX (v := 17) dX25_faultOf_53 (by decide) ?_
    refine jj_icmp_ne (pc := 55) hX 101 dX25_faultOf_55 rfl (fun _ => ?_) (fun q => absurd q (by decide))
    refine jj_iload_n (pc := 101) hX dX25_faultOf_101 rfl ?_
    refine jj_if_eq (pc := 102) hX 116 dX25_faultOf_102 rfl (fun q => absurd q (by decide)) (fun _ => ?_)
    refine jj_iload_n (pc := 105) hX dX25_faultOf_105 rfl ?_
    refine jj_iconst (pc := 106) hX (v := 1) dX25_faultOf_106 (by decide) ?_
    refine jj_icmp_eq (pc := 107) hX 116 dX25_faultOf_107 rfl (fun q => absurd q (by decide)) (fun _ => ?_)
    refine jj_iload_n (pc := 110) hX dX25_faultOf_110 rfl ?_
    refine jj_bipush (pc := 111) hX (v := 14) dX25_faultOf_111 (by decide) ?_
    refine jj_icmp_ne (pc := 113) hX 130 dX25_faultOf_113 rfl (fun _ => ?_) (fun q => absurd q (by decide))
    refine jj_iload_n (pc := 130) hX dX25_faultOf_130 rfl ?_
    refine jj_bipush (pc := 131) hX (v := 21) dX25_faultOf_131 (by decide) ?_
    refine jj_icmp_ne (pc := 133) hX 149 dX25_faultOf_133 rfl (fun _ => ?_) (fun q => absurd q (by decide))
    refine jj_iconst (pc := 149) hX (v := 0) dX25_faultOf_149 (by decide) ?_
    refine jj_iret (pc := 150) hX dX25_faultOf_150 hr ⟨Nat.le_refl _, Nat.le_refl _⟩ ?_
    unfold m_fault
    exact ⟨rfl, rfl, rfl, rfl, rfl⟩
  · refine jj_iload_n (pc := 0) hX dX25_faultOf_0 rfl ?_
    refine jj_iconst (pc := 1) hX (v := 3) dX25_faultOf_1 (by decide) ?_
    refine jj_icmp_ne (pc := 2) hX 17 dX25_faultOf_2 rfl (fun _ => ?_) (fun q => absurd q (by decide))
    refine jj_iload_n (pc := 17) hX dX25_faultOf_17 rfl ?_
    refine jj_iconst (pc := 18) hX (v := 4) dX25_faultOf_18 (by decide) ?_
    refine jj_icmp_ne (pc := 19) hX 37 dX25_faultOf_19 rfl (fun _ => ?_) (fun q => absurd q (by decide))
    refine jj_iload_n (pc := 37) hX dX25_faultOf_37 rfl ?_
    refine jj_bipush (pc := 38) hX (v := 8) dX25_faultOf_38 (by decide) ?_
    refine jj_icmp_ne (pc := 40) hX 52 dX25_faultOf_40 rfl (fun _ => ?_) (fun q => absurd q (by decide))
    refine jj_iload_n (pc := 52) hX dX25_faultOf_52 rfl ?_
    refine jj_bipush (pc := 53) hX (v := 17) dX25_faultOf_53 (by decide) ?_
    refine jj_icmp_ne (pc := 55) hX 101 dX25_faultOf_55 rfl (fun _ => ?_) (fun q => absurd q (by decide))
    refine jj_iload_n (pc := 101) hX dX25_faultOf_101 rfl ?_
    refine jj_if_eq (pc := 102) hX 116 dX25_faultOf_102 rfl (fun q => absurd q (by decide)) (fun _ => ?_)
    refine jj_iload_n (pc := 105) hX dX25_faultOf_105 rfl ?_
    refine jj_iconst (pc := 106) hX (v := 1) dX25_faultOf_106 (by decide) ?_
    refine jj_icmp_eq (pc := 107) hX 116 dX25_faultOf_107 rfl (fun q => absurd q (by decide)) (fun _ => ?_)
    refine jj_iload_n (pc := 110) hX dX25_faultOf_110 rfl ?_
    refine jj_bipush (pc := 111) hX (v := 14) dX25_faultOf_111 (by decide) ?_
    refine jj_icmp_ne (pc := 113) hX 130 dX25_faultOf_113 rfl (fun _ => ?_) (fun q => absurd q (by decide))
    refine jj_iload_n (pc := 130) hX dX25_faultOf_130 rfl ?_
    refine jj_bipush (pc := 131) hX (v := 21) dX25_faultOf_131 (by decide) ?_
    refine jj_icmp_ne (pc := 133) hX 149 dX25_faultOf_133 rfl (fun _ => ?_) (fun q => absurd q (by decide))
    refine jj_iconst (pc := 149) hX (v := 0) dX25_faultOf_149 (by decide) ?_
    refine jj_iret (pc := 150) hX dX25_faultOf_150 hr ⟨Nat.le_refl _, Nat.le_refl _⟩ ?_
    unfold m_fault
    exact ⟨rfl, rfl, rfl, rfl, rfl⟩
  · refine jj_iload_n (pc := 0) hX dX25_faultOf_0 rfl ?_
    refine jj_iconst (pc := 1) hX (v := 3) dX25_faultOf_1 (by decide) ?_
    refine jj_icmp_ne (pc := 2) hX 17 dX25_faultOf_2 rfl (fun _ => ?_) (fun q => absurd q (by decide))
    refine jj_iload_n (pc := 17) hX dX25_faultOf_17 rfl ?_
    refine jj_iconst (pc := 18) hX (v := 4) dX25_faultOf_18 (by decide) ?_
    refine jj_icmp_ne (pc := 19) hX 37 dX25_faultOf_19 rfl (fun _ => ?_) (fun q => absurd q (by decide))
    refine jj_iload_n (pc := 37) hX dX25_faultOf_37 rfl ?_
    refine jj_bipush (pc := 38) hX (v := 8) dX25_faultOf_38 (by decide) ?_
    refine jj_icmp_ne (pc := 40) hX 52 dX25_faultOf_40 rfl (fun _ => ?_) (fun q => absurd q (by decide))
    refine jj_iload_n (pc := 52) hX dX25_faultOf_52 rfl ?_
    refine jj_bipush (pc := 53) hX (v := 17) dX25_faultOf_53 (by decide) ?_
    refine jj_icmp_ne (pc := 55) hX 101 dX25_faultOf_55 rfl (fun _ => ?_) (fun q => absurd q (by decide))
    refine jj_iload_n (pc := 101) hX dX25_faultOf_101 rfl ?_
    refine jj_if_eq (pc := 102) hX 116 dX25_faultOf_102 rfl (fun q => absurd q (by decide)) (fun _ => ?_)
    refine jj_iload_n (pc := 105) hX dX25_faultOf_105 rfl ?_
    refine jj_iconst (pc := 106) hX (v := 1) dX25_faultOf_106 (by decide) ?_
    refine jj_icmp_eq (pc := 107) hX 116 dX25_faultOf_107 rfl (fun q => absurd q (by decide)) (fun _ => ?_)
    refine jj_iload_n (pc := 110) hX dX25_faultOf_110 rfl ?_
    refine jj_bipush (pc := 111) hX (v := 14) dX25_faultOf_111 (by decide) ?_
    refine jj_icmp_ne (pc := 113) hX 130 dX25_faultOf_113 rfl (fun q => absurd (by decide) q) (fun _ => ?_)
    refine jj_aload_n (pc := 116) hX dX25_faultOf_116 rfl ?_
    refine jj_getR (pc := 117) hX (x := some 32) fl_X25_93_25 dX25_faultOf_117 rfl rfl rfl ?_
    refine jj_iload_n (pc := 120) hX dX25_faultOf_120 rfl ?_
    refine jj_iald (pc := 121) hX t dX25_faultOf_121 rfl rfl rfl ⟨by omega, by omega⟩ ?_
    refine jj_bipush (pc := 122) hX (v := 12) dX25_faultOf_122 (by decide) ?_
    refine jj_icmp_ne (pc := 124) hX 130 dX25_faultOf_124 rfl (fun h124 => ?_) (fun h124 => ?_)
    · refine jj_iload_n (pc := 130) hX dX25_faultOf_130 rfl ?_
      refine jj_bipush (pc := 131) hX (v := 21) dX25_faultOf_131 (by decide) ?_
      refine jj_icmp_ne (pc := 133) hX 149 dX25_faultOf_133 rfl (fun _ => ?_) (fun q => absurd q (by decide))
      refine jj_iconst (pc := 149) hX (v := 0) dX25_faultOf_149 (by decide) ?_
      refine jj_iret (pc := 150) hX dX25_faultOf_150 hr ⟨Nat.le_refl _, Nat.le_refl _⟩ ?_
      unfold m_fault
      try dsimp only
      rw [if_neg h124]
      exact ⟨rfl, rfl, rfl, rfl, rfl⟩
    · refine jj_bipush (pc := 127) hX (v := 7) dX25_faultOf_127 (by decide) ?_
      refine jj_iret (pc := 129) hX dX25_faultOf_129 hr ⟨Nat.le_refl _, Nat.le_refl _⟩ ?_
      unfold m_fault
      try dsimp only
      rw [if_pos h124]
      exact ⟨rfl, rfl, rfl, rfl, rfl⟩
  · refine jj_iload_n (pc := 0) hX dX25_faultOf_0 rfl ?_
    refine jj_iconst (pc := 1) hX (v := 3) dX25_faultOf_1 (by decide) ?_
    refine jj_icmp_ne (pc := 2) hX 17 dX25_faultOf_2 rfl (fun _ => ?_) (fun q => absurd q (by decide))
    refine jj_iload_n (pc := 17) hX dX25_faultOf_17 rfl ?_
    refine jj_iconst (pc := 18) hX (v := 4) dX25_faultOf_18 (by decide) ?_
    refine jj_icmp_ne (pc := 19) hX 37 dX25_faultOf_19 rfl (fun _ => ?_) (fun q => absurd q (by decide))
    refine jj_iload_n (pc := 37) hX dX25_faultOf_37 rfl ?_
    refine jj_bipush (pc := 38) hX (v := 8) dX25_faultOf_38 (by decide) ?_
    refine jj_icmp_ne (pc := 40) hX 52 dX25_faultOf_40 rfl (fun _ => ?_) (fun q => absurd q (by decide))
    refine jj_iload_n (pc := 52) hX dX25_faultOf_52 rfl ?_
    refine jj_bipush (pc := 53) hX (v := 17) dX25_faultOf_53 (by decide) ?_
    refine jj_icmp_ne (pc := 55) hX 101 dX25_faultOf_55 rfl (fun _ => ?_) (fun q => absurd q (by decide))
    refine jj_iload_n (pc := 101) hX dX25_faultOf_101 rfl ?_
    refine jj_if_eq (pc := 102) hX 116 dX25_faultOf_102 rfl (fun q => absurd q (by decide)) (fun _ => ?_)
    refine jj_iload_n (pc := 105) hX dX25_faultOf_105 rfl ?_
    refine jj_iconst (pc := 106) hX (v := 1) dX25_faultOf_106 (by decide) ?_
    refine jj_icmp_eq (pc := 107) hX 116 dX25_faultOf_107 rfl (fun q => absurd q (by decide)) (fun _ => ?_)
    refine jj_iload_n (pc := 110) hX dX25_faultOf_110 rfl ?_
    refine jj_bipush (pc := 111) hX (v := 14) dX25_faultOf_111 (by decide) ?_
    refine jj_icmp_ne (pc := 113) hX 130 dX25_faultOf_113 rfl (fun _ => ?_) (fun q => absurd q (by decide))
    refine jj_iload_n (pc := 130) hX dX25_faultOf_130 rfl ?_
    refine jj_bipush (pc := 131) hX (v := 21) dX25_faultOf_131 (by decide) ?_
    refine jj_icmp_ne (pc := 133) hX 149 dX25_faultOf_133 rfl (fun _ => ?_) (fun q => absurd q (by decide))
    refine jj_iconst (pc := 149) hX (v := 0) dX25_faultOf_149 (by decide) ?_
    refine jj_iret (pc := 150) hX dX25_faultOf_150 hr ⟨Nat.le_refl _, Nat.le_refl _⟩ ?_
    unfold m_fault
    exact ⟨rfl, rfl, rfl, rfl, rfl⟩
  · refine jj_iload_n (pc := 0) hX dX25_faultOf_0 rfl ?_
    refine jj_iconst (pc := 1) hX (v := 3) dX25_faultOf_1 (by decide) ?_
    refine jj_icmp_ne (pc := 2) hX 17 dX25_faultOf_2 rfl (fun _ => ?_) (fun q => absurd q (by decide))
    refine jj_iload_n (pc := 17) hX dX25_faultOf_17 rfl ?_
    refine jj_iconst (pc := 18) hX (v := 4) dX25_faultOf_18 (by decide) ?_
    refine jj_icmp_ne (pc := 19) hX 37 dX25_faultOf_19 rfl (fun _ => ?_) (fun q => absurd q (by decide))
    refine jj_iload_n (pc := 37) hX dX25_faultOf_37 rfl ?_
    refine jj_bipush (pc := 38) hX (v := 8) dX25_faultOf_38 (by decide) ?_
    refine jj_icmp_ne (pc := 40) hX 52 dX25_faultOf_40 rfl (fun _ => ?_) (fun q => absurd q (by decide))
    refine jj_iload_n (pc := 52) hX dX25_faultOf_52 rfl ?_
    refine jj_bipush (pc := 53) hX (v := 17) dX25_faultOf_53 (by decide) ?_
    refine jj_icmp_ne (pc := 55) hX 101 dX25_faultOf_55 rfl (fun _ => ?_) (fun q => absurd q (by decide))
    refine jj_iload_n (pc := 101) hX dX25_faultOf_101 rfl ?_
    refine jj_if_eq (pc := 102) hX 116 dX25_faultOf_102 rfl (fun q => absurd q (by decide)) (fun _ => ?_)
    refine jj_iload_n (pc := 105) hX dX25_faultOf_105 rfl ?_
    refine jj_iconst (pc := 106) hX (v := 1) dX25_faultOf_106 (by decide) ?_
    refine jj_icmp_eq (pc := 107) hX 116 dX25_faultOf_107 rfl (fun q => absurd q (by decide)) (fun _ => ?_)
    refine jj_iload_n (pc := 110) hX dX25_faultOf_110 rfl ?_
    refine jj_bipush (pc := 111) hX (v := 14) dX25_faultOf_111 (by decide) ?_
    refine jj_icmp_ne (pc := 113) hX 130 dX25_faultOf_113 rfl (fun _ => ?_) (fun q => absurd q (by decide))
    refine jj_iload_n (pc := 130) hX dX25_faultOf_130 rfl ?_
    refine jj_bipush (pc := 131) hX (v := 21) dX25_faultOf_131 (by decide) ?_
    refine jj_icmp_ne (pc := 133) hX 149 dX25_faultOf_133 rfl (fun _ => ?_) (fun q => absurd q (by decide))
    refine jj_iconst (pc := 149) hX (v := 0) dX25_faultOf_149 (by decide) ?_
    refine jj_iret (pc := 150) hX dX25_faultOf_150 hr ⟨Nat.le_refl _, Nat.le_refl _⟩ ?_
    unfold m_fault
    exact ⟨rfl, rfl, rfl, rfl, rfl⟩
  · refine jj_iload_n (pc := 0) hX dX25_faultOf_0 rfl ?_
    refine jj_iconst (pc := 1) hX (v := 3) dX25_faultOf_1 (by decide) ?_
    refine jj_icmp_ne (pc := 2) hX 17 dX25_faultOf_2 rfl (fun _ => ?_) (fun q => absurd q (by decide))
    refine jj_iload_n (pc := 17) hX dX25_faultOf_17 rfl ?_
    refine jj_iconst (pc := 18) hX (v := 4) dX25_faultOf_18 (by decide) ?_
    refine jj_icmp_ne (pc := 19) hX 37 dX25_faultOf_19 rfl (fun _ => ?_) (fun q => absurd q (by decide))
    refine jj_iload_n (pc := 37) hX dX25_faultOf_37 rfl ?_
    refine jj_bipush (pc := 38) hX (v := 8) dX25_faultOf_38 (by decide) ?_
    refine jj_icmp_ne (pc := 40) hX 52 dX25_faultOf_40 rfl (fun _ => ?_) (fun q => absurd q (by decide))
    refine jj_iload_n (pc := 52) hX dX25_faultOf_52 rfl ?_
    refine jj_bipush (pc := 53) hX (v := 17) dX25_faultOf_53 (by decide) ?_
    refine jj_icmp_ne (pc := 55) hX 101 dX25_faultOf_55 rfl (fun q => absurd (by decide) q) (fun _ => ?_)
    refine jj_iload_n (pc := 58) hX dX25_faultOf_58 rfl ?_
    refine jj_aload_n (pc := 59) hX dX25_faultOf_59 rfl ?_
    refine jj_getI (pc := 60) hX fl_X25_114_25 dX25_faultOf_60 rfl rfl ?_
    refine jj_icmp_lt (pc := 63) hX 71 dX25_faultOf_63 rfl (fun h63 => ?_) (fun h63 => ?_)
    · refine jj_aload_n (pc := 71) hX dX25_faultOf_71 rfl ?_
      refine jj_getR (pc := 72) hX (x := some 19) fl_X25_53_25 dX25_faultOf_72 rfl rfl rfl ?_
      refine jj_iload_n (pc := 75) hX dX25_faultOf_75 rfl ?_
      refine jj_iald (pc := 76) hX t dX25_faultOf_76 rfl rfl rfl ⟨by omega, by omega⟩ ?_
      refine jj_iconst (pc := 77) hX (v := 3) dX25_faultOf_77 (by decide) ?_
      refine jj_icmp_ne (pc := 78) hX 85 dX25_faultOf_78 rfl (fun h78 => ?_) (fun h78 => ?_)
      · refine jj_aload_n (pc := 85) hX dX25_faultOf_85 rfl ?_
        refine jj_getR (pc := 86) hX (x := some 18) fl_X25_50_25 dX25_faultOf_86 rfl rfl rfl ?_
        refine jj_iload_n (pc := 89) hX dX25_faultOf_89 rfl ?_
        refine jj_iald (pc := 90) hX t dX25_faultOf_90 rfl rfl rfl ⟨by omega, by omega⟩ ?_
        refine jj_iconst (pc := 91) hX (v := 3) dX25_faultOf_91 (by decide) ?_
        refine jj_icmp_ne (pc := 92) hX 99 dX25_faultOf_92 rfl (fun h92 => ?_) (fun h92 => ?_)
        · refine jj_iconst (pc := 99) hX (v := 0) dX25_faultOf_99 (by decide) ?_
          refine jj_iret (pc := 100) hX dX25_faultOf_100 hr ⟨Nat.le_refl _, Nat.le_refl _⟩ ?_
          unfold m_fault
          try dsimp only
          rw [if_pos h63, if_neg h78, if_neg h92]
          exact ⟨rfl, rfl, rfl, rfl, rfl⟩
        · refine jj_iconst (pc := 95) hX (v := 5) dX25_faultOf_95 (by decide) ?_
          refine jj_goto (pc := 96) hX 100 dX25_faultOf_96 rfl ?_
          refine jj_iret (pc := 100) hX dX25_faultOf_100 hr ⟨Nat.le_refl _, Nat.le_refl _⟩ ?_
          unfold m_fault
          try dsimp only
          rw [if_pos h63, if_neg h78, if_pos h92]
          exact ⟨rfl, rfl, rfl, rfl, rfl⟩
      · refine jj_iconst (pc := 81) hX (v := 4) dX25_faultOf_81 (by decide) ?_
        refine jj_goto (pc := 82) hX 100 dX25_faultOf_82 rfl ?_
        refine jj_iret (pc := 100) hX dX25_faultOf_100 hr ⟨Nat.le_refl _, Nat.le_refl _⟩ ?_
        unfold m_fault
        try dsimp only
        rw [if_pos h63, if_pos h78]
        exact ⟨rfl, rfl, rfl, rfl, rfl⟩
    · refine jj_bipush (pc := 66) hX (v := 10) dX25_faultOf_66 (by decide) ?_
      refine jj_goto (pc := 68) hX 100 dX25_faultOf_68 rfl ?_
      refine jj_iret (pc := 100) hX dX25_faultOf_100 hr ⟨Nat.le_refl _, Nat.le_refl _⟩ ?_
      unfold m_fault
      try dsimp only
      rw [if_neg h63]
      exact ⟨rfl, rfl, rfl, rfl, rfl⟩
  · refine jj_iload_n (pc := 0) hX dX25_faultOf_0 rfl ?_
    refine jj_iconst (pc := 1) hX (v := 3) dX25_faultOf_1 (by decide) ?_
    refine jj_icmp_ne (pc := 2) hX 17 dX25_faultOf_2 rfl (fun _ => ?_) (fun q => absurd q (by decide))
    refine jj_iload_n (pc := 17) hX dX25_faultOf_17 rfl ?_
    refine jj_iconst (pc := 18) hX (v := 4) dX25_faultOf_18 (by decide) ?_
    refine jj_icmp_ne (pc := 19) hX 37 dX25_faultOf_19 rfl (fun _ => ?_) (fun q => absurd q (by decide))
    refine jj_iload_n (pc := 37) hX dX25_faultOf_37 rfl ?_
    refine jj_bipush (pc := 38) hX (v := 8) dX25_faultOf_38 (by decide) ?_
    refine jj_icmp_ne (pc := 40) hX 52 dX25_faultOf_40 rfl (fun _ => ?_) (fun q => absurd q (by decide))
    refine jj_iload_n (pc := 52) hX dX25_faultOf_52 rfl ?_
    refine jj_bipush (pc := 53) hX (v := 17) dX25_faultOf_53 (by decide) ?_
    refine jj_icmp_ne (pc := 55) hX 101 dX25_faultOf_55 rfl (fun _ => ?_) (fun q => absurd q (by decide))
    refine jj_iload_n (pc := 101) hX dX25_faultOf_101 rfl ?_
    refine jj_if_eq (pc := 102) hX 116 dX25_faultOf_102 rfl (fun q => absurd q (by decide)) (fun _ => ?_)
    refine jj_iload_n (pc := 105) hX dX25_faultOf_105 rfl ?_
    refine jj_iconst (pc := 106) hX (v := 1) dX25_faultOf_106 (by decide) ?_
    refine jj_icmp_eq (pc := 107) hX 116 dX25_faultOf_107 rfl (fun q => absurd q (by decide)) (fun _ => ?_)
    refine jj_iload_n (pc := 110) hX dX25_faultOf_110 rfl ?_
    refine jj_bipush (pc := 111) hX (v := 14) dX25_faultOf_111 (by decide) ?_
    refine jj_icmp_ne (pc := 113) hX 130 dX25_faultOf_113 rfl (fun _ => ?_) (fun q => absurd q (by decide))
    refine jj_iload_n (pc := 130) hX dX25_faultOf_130 rfl ?_
    refine jj_bipush (pc := 131) hX (v := 21) dX25_faultOf_131 (by decide) ?_
    refine jj_icmp_ne (pc := 133) hX 149 dX25_faultOf_133 rfl (fun _ => ?_) (fun q => absurd q (by decide))
    refine jj_iconst (pc := 149) hX (v := 0) dX25_faultOf_149 (by decide) ?_
    refine jj_iret (pc := 150) hX dX25_faultOf_150 hr ⟨Nat.le_refl _, Nat.le_refl _⟩ ?_
    unfold m_fault
    exact ⟨rfl, rfl, rfl, rfl, rfl⟩
  · refine jj_iload_n (pc := 0) hX dX25_faultOf_0 rfl ?_
    refine jj_iconst (pc := 1) hX (v := 3) dX25_faultOf_1 (by decide) ?_
    refine jj_icmp_ne (pc := 2) hX 17 dX25_faultOf_2 rfl (fun _ => ?_) (fun q => absurd q (by decide))
    refine jj_iload_n (pc := 17) hX dX25_faultOf_17 rfl ?_
    refine jj_iconst (pc := 18) hX (v := 4) dX25_faultOf_18 (by decide) ?_
    refine jj_icmp_ne (pc := 19) hX 37 dX25_faultOf_19 rfl (fun _ => ?_) (fun q => absurd q (by decide))
    refine jj_iload_n (pc := 37) hX dX25_faultOf_37 rfl ?_
    refine jj_bipush (pc := 38) hX (v := 8) dX25_faultOf_38 (by decide) ?_
    refine jj_icmp_ne (pc := 40) hX 52 dX25_faultOf_40 rfl (fun _ => ?_) (fun q => absurd q (by decide))
    refine jj_iload_n (pc := 52) hX dX25_faultOf_52 rfl ?_
    refine jj_bipush (pc := 53) hX (v := 17) dX25_faultOf_53 (by decide) ?_
    refine jj_icmp_ne (pc := 55) hX 101 dX25_faultOf_55 rfl (fun _ => ?_) (fun q => absurd q (by decide))
    refine jj_iload_n (pc := 101) hX dX25_faultOf_101 rfl ?_
    refine jj_if_eq (pc := 102) hX 116 dX25_faultOf_102 rfl (fun q => absurd q (by decide)) (fun _ => ?_)
    refine jj_iload_n (pc := 105) hX dX25_faultOf_105 rfl ?_
    refine jj_iconst (pc := 106) hX (v := 1) dX25_faultOf_106 (by decide) ?_
    refine jj_icmp_eq (pc := 107) hX 116 dX25_faultOf_107 rfl (fun q => absurd q (by decide)) (fun _ => ?_)
    refine jj_iload_n (pc := 110) hX dX25_faultOf_110 rfl ?_
    refine jj_bipush (pc := 111) hX (v := 14) dX25_faultOf_111 (by decide) ?_
    refine jj_icmp_ne (pc := 113) hX 130 dX25_faultOf_113 rfl (fun _ => ?_) (fun q => absurd q (by decide))
    refine jj_iload_n (pc := 130) hX dX25_faultOf_130 rfl ?_
    refine jj_bipush (pc := 131) hX (v := 21) dX25_faultOf_131 (by decide) ?_
    refine jj_icmp_ne (pc := 133) hX 149 dX25_faultOf_133 rfl (fun _ => ?_) (fun q => absurd q (by decide))
    refine jj_iconst (pc := 149) hX (v := 0) dX25_faultOf_149 (by decide) ?_
    refine jj_iret (pc := 150) hX dX25_faultOf_150 hr ⟨Nat.le_refl _, Nat.le_refl _⟩ ?_
    unfold m_fault
    exact ⟨rfl, rfl, rfl, rfl, rfl⟩
  · refine jj_iload_n (pc := 0) hX dX25_faultOf_0 rfl ?_
    refine jj_iconst (pc := 1) hX (v := 3) dX25_faultOf_1 (by decide) ?_
    refine jj_icmp_ne (pc := 2) hX 17 dX25_faultOf_2 rfl (fun _ => ?_) (fun q => absurd q (by decide))
    refine jj_iload_n (pc := 17) hX dX25_faultOf_17 rfl ?_
    refine jj_iconst (pc := 18) hX (v := 4) dX25_faultOf_18 (by decide) ?_
    refine jj_icmp_ne (pc := 19) hX 37 dX25_faultOf_19 rfl (fun _ => ?_) (fun q => absurd q (by decide))
    refine jj_iload_n (pc := 37) hX dX25_faultOf_37 rfl ?_
    refine jj_bipush (pc := 38) hX (v := 8) dX25_faultOf_38 (by decide) ?_
    refine jj_icmp_ne (pc := 40) hX 52 dX25_faultOf_40 rfl (fun _ => ?_) (fun q => absurd q (by decide))
    refine jj_iload_n (pc := 52) hX dX25_faultOf_52 rfl ?_
    refine jj_bipush (pc := 53) hX (v := 17) dX25_faultOf_53 (by decide) ?_
    refine jj_icmp_ne (pc := 55) hX 101 dX25_faultOf_55 rfl (fun _ => ?_) (fun q => absurd q (by decide))
    refine jj_iload_n (pc := 101) hX dX25_faultOf_101 rfl ?_
    refine jj_if_eq (pc := 102) hX 116 dX25_faultOf_102 rfl (fun q => absurd q (by decide)) (fun _ => ?_)
    refine jj_iload_n (pc := 105) hX dX25_faultOf_105 rfl ?_
    refine jj_iconst (pc := 106) hX (v := 1) dX25_faultOf_106 (by decide) ?_
    refine jj_icmp_eq (pc := 107) hX 116 dX25_faultOf_107 rfl (fun q => absurd q (by decide)) (fun _ => ?_)
    refine jj_iload_n (pc := 110) hX dX25_faultOf_110 rfl ?_
    refine jj_bipush (pc := 111) hX (v := 14) dX25_faultOf_111 (by decide) ?_
    refine jj_icmp_ne (pc := 113) hX 130 dX25_faultOf_113 rfl (fun _ => ?_) (fun q => absurd q (by decide))
    refine jj_iload_n (pc := 130) hX dX25_faultOf_130 rfl ?_
    refine jj_bipush (pc := 131) hX (v := 21) dX25_faultOf_131 (by decide) ?_
    refine jj_icmp_ne (pc := 133) hX 149 dX25_faultOf_133 rfl (fun _ => ?_) (fun q => absurd q (by decide))
    refine jj_iconst (pc := 149) hX (v := 0) dX25_faultOf_149 (by decide) ?_
    refine jj_iret (pc := 150) hX dX25_faultOf_150 hr ⟨Nat.le_refl _, Nat.le_refl _⟩ ?_
    unfold m_fault
    exact ⟨rfl, rfl, rfl, rfl, rfl⟩
  · refine jj_iload_n (pc := 0) hX dX25_faultOf_0 rfl ?_
    refine jj_iconst (pc := 1) hX (v := 3) dX25_faultOf_1 (by decide) ?_
    refine jj_icmp_ne (pc := 2) hX 17 dX25_faultOf_2 rfl (fun _ => ?_) (fun q => absurd q (by decide))
    refine jj_iload_n (pc := 17) hX dX25_faultOf_17 rfl ?_
    refine jj_iconst (pc := 18) hX (v := 4) dX25_faultOf_18 (by decide) ?_
    refine jj_icmp_ne (pc := 19) hX 37 dX25_faultOf_19 rfl (fun _ => ?_) (fun q => absurd q (by decide))
    refine jj_iload_n (pc := 37) hX dX25_faultOf_37 rfl ?_
    refine jj_bipush (pc := 38) hX (v := 8) dX25_faultOf_38 (by decide) ?_
    refine jj_icmp_ne (pc := 40) hX 52 dX25_faultOf_40 rfl (fun _ => ?_) (fun q => absurd q (by decide))
    refine jj_iload_n (pc := 52) hX dX25_faultOf_52 rfl ?_
    refine jj_bipush (pc := 53) hX (v := 17) dX25_faultOf_53 (by decide) ?_
    refine jj_icmp_ne (pc := 55) hX 101 dX25_faultOf_55 rfl (fun _ => ?_) (fun q => absurd q (by decide))
    refine jj_iload_n (pc := 101) hX dX25_faultOf_101 rfl ?_
    refine jj_if_eq (pc := 102) hX 116 dX25_faultOf_102 rfl (fun q => absurd q (by decide)) (fun _ => ?_)
    refine jj_iload_n (pc := 105) hX dX25_faultOf_105 rfl ?_
    refine jj_iconst (pc := 106) hX (v := 1) dX25_faultOf_106 (by decide) ?_
    refine jj_icmp_eq (pc := 107) hX 116 dX25_faultOf_107 rfl (fun q => absurd q (by decide)) (fun _ => ?_)
    refine jj_iload_n (pc := 110) hX dX25_faultOf_110 rfl ?_
    refine jj_bipush (pc := 111) hX (v := 14) dX25_faultOf_111 (by decide) ?_
    refine jj_icmp_ne (pc := 113) hX 130 dX25_faultOf_113 rfl (fun _ => ?_) (fun q => absurd q (by decide))
    refine jj_iload_n (pc := 130) hX dX25_faultOf_130 rfl ?_
    refine jj_bipush (pc := 131) hX (v := 21) dX25_faultOf_131 (by decide) ?_
    refine jj_icmp_ne (pc := 133) hX 149 dX25_faultOf_133 rfl (fun q => absurd (by decide) q) (fun _ => ?_)
    refine jj_bipush (pc := 136) hX (v := 100) dX25_faultOf_136 (by decide) ?_
    refine jj_lload (pc := 138) hX dX25_faultOf_138 rfl ?_
    refine jj_ldc2 (pc := 140) hX (v := 63) q1688 dX25_faultOf_140 ?_
    refine jj_land (pc := 143) hX dX25_faultOf_143 ?_
    refine jj_l2i (pc := 144) hX dX25_faultOf_144 ?_
    refine jj_iadd (pc := 145) hX dX25_faultOf_145 ?_
    refine jj_goto (pc := 146) hX 150 dX25_faultOf_146 rfl ?_
    refine jj_iret (pc := 150) hX dX25_faultOf_150 hr ⟨Nat.le_refl _, Nat.le_refl _⟩ ?_
    unfold m_fault
    exact ⟨rfl, rfl, rfl, rfl, rfl⟩
