set_option maxRecDepth 100000
theorem v_TinitN (G : jj_G) (τ : jj_T) (I : jj_I) (L : jj_L) (r : jj_R) (T : Nat) (hT : τ T = some (.inl 29)) (hT7 : 7 ≤ T) (hf : ∀ i, 1 ≤ i → i ≤ 10 → τ (T + i) = none) (nu od bn : Int32) (bl pr ro : Option Nat) : kk_M G yX29_init (ws_ yX29_init cX29_init 8 none) { frames := 3, cells := 10, slots := 109, locals := 61 } [jR (some T), jI nu, jR none, jI od, jI bn, jR bl, jR pr, jR ro] true τ I L r (jj_eq none (jj_t (jj_t (jj_t (jj_t (jj_t (jj_t (jj_t (jj_t (jj_t (jj_t τ (T + 1) (.inl 30)) (T + 2) (.inr (2, 1))) (T + 3) (.inr (4, 1))) (T + 4) (.inl 30)) (T + 5) (.inr (2, 8))) (T + 6) (.inr (4, 8))) (T + 7) (.inl 31)) (T + 8) (.inr (2, 12))) (T + 9) (.inr (4, 12))) (T + 10) (.inr (2, 60))) (jj_u (jj_u (jj_u (jj_u (jj_z (jj_z (jj_z (jj_z (jj_z (jj_z (jj_z (jj_z (jj_z (jj_z I (T + 1) 0) (T + 2) 0) (T + 3) 0) (T + 4) 0) (T + 5) 0) (T + 6) 0) (T + 7) 0) (T + 8) 0) (T + 9) 0) (T + 10) 0) T 0 nu) T 2 od) T 3 0) T 4 bn) (jj_z (jj_z (jj_z (jj_z (jj_z (jj_z (jj_z (jj_u (jj_z (jj_z (jj_z L (T + 1) 0) (T + 2) 0) (T + 3) 0) T 13 17) (T + 4) 0) (T + 5) 0) (T + 6) 0) (T + 7) 0) (T + 8) 0) (T + 9) 0) (T + 10) 0) (jj_u (jj_u (jj_u (jj_u (jj_u (jj_z (jj_u (jj_u (jj_z (jj_u (jj_z (jj_z (jj_u (jj_u (jj_z (jj_u (jj_z (jj_z (jj_u (jj_u (jj_z (jj_u (jj_z (jj_z (jj_u r T 10 (some 1)) (T + 1) none) (T + 2) none) (T + 1) 0 (some (T + 2))) (T + 3) none) (T + 1) 1 (some (T + 3))) T 12 (some (T + 1))) (T + 4) none) (T + 5) none) (T + 4) 0 (some (T + 5))) (T + 6) none) (T + 4) 1 (some (T + 6))) T 14 (some (T + 4))) (T + 7) none) (T + 8) none) (T + 7) 0 (some (T + 8))) (T + 9) none) (T + 7) 1 (some (T + 9))) T 15 (some (T + 7))) (T + 10) none) T 16 (some (T + 10))) T 1 none) T 5 bl) T 18 pr) T 19 ro)) jj_no := by
  refine kk_intro "BranchCells$Task" (by decide) rfl (Nat.le_of_ble_eq_true rfl) ?_
  intro X hG hX hr hN hC hF hAd
  have f1 : τ (T + 1) = none ∧ ¬ (1 ≤ T + 1 ∧ T + 1 ≤ 6) := ⟨hf 1 (by decide) (by decide), by omega⟩
  have f2 : τ (T + 2) = none ∧ ¬ (1 ≤ T + 2 ∧ T + 2 ≤ 6) := ⟨hf 2 (by decide) (by decide), by omega⟩
  have f3 : τ (T + 3) = none ∧ ¬ (1 ≤ T + 3 ∧ T + 3 ≤ 6) := ⟨hf 3 (by decide) (by decide), by omega⟩
  have f4 : τ (T + 4) = none ∧ ¬ (1 ≤ T + 4 ∧ T + 4 ≤ 6) := ⟨hf 4 (by decide) (by decide), by omega⟩
  have f5 : τ (T + 5) = none ∧ ¬ (1 ≤ T + 5 ∧ T + 5 ≤ 6) := ⟨hf 5 (by decide) (by decide), by omega⟩
  have f6 : τ (T + 6) = none ∧ ¬ (1 ≤ T + 6 ∧ T + 6 ≤ 6) := ⟨hf 6 (by decide) (by decide), by omega⟩
  have f7 : τ (T + 7) = none ∧ ¬ (1 ≤ T + 7 ∧ T + 7 ≤ 6) := ⟨hf 7 (by decide) (by decide), by omega⟩
  have f8 : τ (T + 8) = none ∧ ¬ (1 ≤ T + 8 ∧ T + 8 ≤ 6) := ⟨hf 8 (by decide) (by decide), by omega⟩
  have f9 : τ (T + 9) = none ∧ ¬ (1 ≤ T + 9 ∧ T + 9 ≤ 6) := ⟨hf 9 (by decide) (by decide), by omega⟩
  have f10 : τ (T + 10) = none ∧ ¬ (1 ≤ T + 10 ∧ T + 10 ≤ 6) := ⟨hf 10 (by decide) (by decide), by omega⟩
  refine kk_aload_n (pc := 0) hX dX29_init_0 rfl ?_
  refine kk_objInit (pc := 1) hX dX29_init_1 q771 q104 q105 ⟨Nat.le_of_ble_eq_true rfl, Nat.le_of_ble_eq_true rfl⟩ ?_
  refine kk_aload_n (pc := 4) hX dX29_init_4 rfl ?_
  refine kk_gets1 (pc := 5) hX dX29_init_5 q772 ?_
  refine kk_putR (pc := 8) hX fl_X29_15_29 dX29_init_8 hT rfl ?_
  refine kk_aload_n (pc := 11) hX dX29_init_11 rfl ?_
  refine kk_new (pc := 12) hX (T + 1) ⟨f1.1, f1.2⟩ (hF rfl) dX29_init_12 jc_30 q774 q775 q91 (by decide) ⟨Nat.le_of_ble_eq_true rfl, Nat.le_of_ble_eq_true rfl⟩ ?_
  refine kk_dup (pc := 15) hX dX29_init_15 rfl ?_
  refine kk_iconst (pc := 16) hX (v := 1) dX29_init_16 (by decide) ?_
  refine kk_callI (pc := 17) hX (v_Vinit30 X.1 _ _ _ _ (T + 1) (T + 2) (T + 3) 1 jj_ts ⟨((jj_tn (by omega)).trans f2.1), f2.2⟩ ⟨((jj_tn (by omega)).trans f3.1), f3.2⟩ (by omega) (by decide)) dX29_init_17 (lw_meth q778) ⟨q776, q777, q91, rfl⟩ ⟨by decide +kernel, by decide +kernel, by show _ = some (1 : Nat); decide +kernel⟩ ⟨Nat.le_of_ble_eq_true rfl, Nat.le_of_ble_eq_true rfl, Nat.le_of_ble_eq_true rfl, Nat.le_of_ble_eq_true rfl, Nat.le_of_ble_eq_true rfl⟩ (fun _ => hF rfl) rfl (jj_keq ?_) jj_kno
  refine kk_putRF (pc := 20) hX (hC rfl) fl_X29_25_29 ⟨_, jc_29, rfl⟩ dX29_init_20 (Eq.trans (jj_tn (by omega)) (Eq.trans (jj_tn (by omega)) (Eq.trans (jj_tn (by omega)) hT))) rfl ?_
  refine kk_aload_n (pc := 23) hX dX29_init_23 rfl ?_
  refine kk_ldc2 (pc := 24) hX (v := 17) q802 dX29_init_24 ?_
  refine kk_putL (pc := 27) hX fl_X29_31_29 dX29_init_27 (Eq.trans (jj_tn (by omega)) (Eq.trans (jj_tn (by omega)) (Eq.trans (jj_tn (by omega)) hT))) rfl ?_
  refine kk_aload_n (pc := 30) hX dX29_init_30 rfl ?_
  refine kk_new (pc := 31) hX (T + 4) ⟨((jj_tn (by omega)).trans ((jj_tn (by omega)).trans ((jj_tn (by omega)).trans f4.1))), f4.2⟩ (hF rfl) dX29_init_31 jc_30 q774 q775 q91 (by decide) ⟨Nat.le_of_ble_eq_true rfl, Nat.le_of_ble_eq_true rfl⟩ ?_
  refine kk_dup (pc := 34) hX dX29_init_34 rfl ?_
  refine kk_bipush (pc := 35) hX (v := 8) dX29_init_35 (by decide) ?_
  refine kk_callI (pc := 37) hX (v_Vinit30 X.1 _ _ _ _ (T + 4) (T + 5) (T + 6) 8 jj_ts ⟨((jj_tn (by omega)).trans ((jj_tn (by omega)).trans ((jj_tn (by omega)).trans ((jj_tn (by omega)).trans f5.1)))), f5.2⟩ ⟨((jj_tn (by omega)).trans ((jj_tn (by omega)).trans ((jj_tn (by omega)).trans ((jj_tn (by omega)).trans f6.1)))), f6.2⟩ (by omega) (by decide)) dX29_init_37 (lw_meth q778) ⟨q776, q777, q91, rfl⟩ ⟨by decide +kernel, by decide +kernel, by show _ = some (1 : Nat); decide +kernel⟩ ⟨Nat.le_of_ble_eq_true rfl, Nat.le_of_ble_eq_true rfl, Nat.le_of_ble_eq_true rfl, Nat.le_of_ble_eq_true rfl, Nat.le_of_ble_eq_true rfl⟩ (fun _ => hF rfl) rfl (jj_keq ?_) jj_kno
  refine kk_putRF (pc := 40) hX (hC rfl) fl_X29_35_29 ⟨_, jc_29, rfl⟩ dX29_init_40 (Eq.trans (jj_tn (by omega)) (Eq.trans (jj_tn (by omega)) (Eq.trans (jj_tn (by omega)) (Eq.trans (jj_tn (by omega)) (Eq.trans (jj_tn (by omega)) (Eq.trans (jj_tn (by omega)) hT)))))) rfl ?_
  refine kk_aload_n (pc := 43) hX dX29_init_43 rfl ?_
  refine kk_new (pc := 44) hX (T + 7) ⟨((jj_tn (by omega)).trans ((jj_tn (by omega)).trans ((jj_tn (by omega)).trans ((jj_tn (by omega)).trans ((jj_tn (by omega)).trans ((jj_tn (by omega)).trans f7.1)))))), f7.2⟩ (hF rfl) dX29_init_44 jc_31 q803 q804 q92 (by decide) ⟨Nat.le_of_ble_eq_true rfl, Nat.le_of_ble_eq_true rfl⟩ ?_
  refine kk_dup (pc := 47) hX dX29_init_47 rfl ?_
  refine kk_callI (pc := 48) hX (v_Pinit X.1 _ _ _ _ (T + 7) (T + 8) (T + 9) jj_ts ⟨((jj_tn (by omega)).trans ((jj_tn (by omega)).trans ((jj_tn (by omega)).trans ((jj_tn (by omega)).trans ((jj_tn (by omega)).trans ((jj_tn (by omega)).trans ((jj_tn (by omega)).trans f8.1))))))), f8.2⟩ ⟨((jj_tn (by omega)).trans ((jj_tn (by omega)).trans ((jj_tn (by omega)).trans ((jj_tn (by omega)).trans ((jj_tn (by omega)).trans ((jj_tn (by omega)).trans ((jj_tn (by omega)).trans f9.1))))))), f9.2⟩ (by omega)) dX29_init_48 (lw_meth q807) ⟨q805, q806, q92, rfl⟩ ⟨by decide +kernel, by decide +kernel, by show _ = some (0 : Nat); decide +kernel⟩ ⟨Nat.le_of_ble_eq_true rfl, Nat.le_of_ble_eq_true rfl, Nat.le_of_ble_eq_true rfl, Nat.le_of_ble_eq_true rfl, Nat.le_of_ble_eq_true rfl⟩ (fun _ => hF rfl) rfl (jj_keq ?_) jj_kno
  refine kk_putRF (pc := 51) hX (hC rfl) fl_X29_41_29 ⟨_, jc_29, rfl⟩ dX29_init_51 (Eq.trans (jj_tn (by omega)) (Eq.trans (jj_tn (by omega)) (Eq.trans (jj_tn (by omega)) (Eq.trans (jj_tn (by omega)) (Eq.trans (jj_tn (by omega)) (Eq.trans (jj_tn (by omega)) (Eq.trans (jj_tn (by omega)) (Eq.trans (jj_tn (by omega)) (Eq.trans (jj_tn (by omega)) hT))))))))) rfl ?_
  refine kk_aload_n (pc := 54) hX dX29_init_54 rfl ?_
  refine kk_bipush (pc := 55) hX (v := 60) dX29_init_55 (by decide) ?_
  refine kk_newa (pc := 57) hX 2 60 (T + 10) ⟨((jj_tn (by omega)).trans ((jj_tn (by omega)).trans ((jj_tn (by omega)).trans ((jj_tn (by omega)).trans ((jj_tn (by omega)).trans ((jj_tn (by omega)).trans ((jj_tn (by omega)).trans ((jj_tn (by omega)).trans ((jj_tn (by omega)).trans f10.1))))))))), f10.2⟩ (hF rfl) dX29_init_57 rfl (by decide) q647 rfl (by decide) ⟨Nat.le_of_ble_eq_true rfl, Nat.le_of_ble_eq_true rfl⟩ ?_
  refine kk_putRF (pc := 59) hX (hC rfl) fl_X29_45_29 ⟨_, jc_29, rfl⟩ dX29_init_59 (Eq.trans (jj_tn (by omega)) (Eq.trans (jj_tn (by omega)) (Eq.trans (jj_tn (by omega)) (Eq.trans (jj_tn (by omega)) (Eq.trans (jj_tn (by omega)) (Eq.trans (jj_tn (by omega)) (Eq.trans (jj_tn (by omega)) (Eq.trans (jj_tn (by omega)) (Eq.trans (jj_tn (by omega)) (Eq.trans (jj_tn (by omega)) hT)))))))))) rfl ?_
  refine kk_aload_n (pc := 62) hX dX29_init_62 rfl ?_
  refine kk_iload_n (pc := 63) hX dX29_init_63 rfl ?_
  refine kk_putIF (pc := 64) hX (hC rfl) fl_X29_49_29 ⟨_, jc_29, rfl⟩ dX29_init_64 (Eq.trans (jj_tn (by omega)) (Eq.trans (jj_tn (by omega)) (Eq.trans (jj_tn (by omega)) (Eq.trans (jj_tn (by omega)) (Eq.trans (jj_tn (by omega)) (Eq.trans (jj_tn (by omega)) (Eq.trans (jj_tn (by omega)) (Eq.trans (jj_tn (by omega)) (Eq.trans (jj_tn (by omega)) (Eq.trans (jj_tn (by omega)) hT)))))))))) rfl rfl ?_
  refine kk_aload_n (pc := 67) hX dX29_init_67 rfl ?_
  refine kk_aload_n (pc := 68) hX dX29_init_68 rfl ?_
  refine kk_putRF (pc := 69) hX (hC rfl) fl_X29_53_29 ⟨_, jc_29, rfl⟩ dX29_init_69 (Eq.trans (jj_tn (by omega)) (Eq.trans (jj_tn (by omega)) (Eq.trans (jj_tn (by omega)) (Eq.trans (jj_tn (by omega)) (Eq.trans (jj_tn (by omega)) (Eq.trans (jj_tn (by omega)) (Eq.trans (jj_tn (by omega)) (Eq.trans (jj_tn (by omega)) (Eq.trans (jj_tn (by omega)) (Eq.trans (jj_tn (by omega)) hT)))))))))) rfl ?_
  refine kk_aload_n (pc := 72) hX dX29_init_72 rfl ?_
  refine kk_iload_n (pc := 73) hX dX29_init_73 rfl ?_
  refine kk_putIF (pc := 74) hX (hC rfl) fl_X29_57_29 ⟨_, jc_29, rfl⟩ dX29_init_74 (Eq.trans (jj_tn (by omega)) (Eq.trans (jj_tn (by omega)) (Eq.trans (jj_tn (by omega)) (Eq.trans (jj_tn (by omega)) (Eq.trans (jj_tn (by omega)) (Eq.trans (jj_tn (by omega)) (Eq.trans (jj_tn (by omega)) (Eq.trans (jj_tn (by omega)) (Eq.trans (jj_tn (by omega)) (Eq.trans (jj_tn (by omega)) hT)))))))))) rfl rfl ?_
  refine kk_aload_n (pc := 77) hX dX29_init_77 rfl ?_
  refine kk_aload_n (pc := 78) hX dX29_init_78 rfl ?_
  refine kk_ifnonnull (pc := 79) hX 86 dX29_init_79 rfl (fun _ q => by cases q) (fun _ => ?_)
  refine kk_iconst (pc := 82) hX (v := 0) dX29_init_82 (by decide) ?_
  refine kk_goto (pc := 83) hX 92 dX29_init_83 rfl ?_
  refine kk_putIF (pc := 92) hX (hC rfl) fl_X29_60_29 ⟨_, jc_29, rfl⟩ dX29_init_92 (Eq.trans (jj_tn (by omega)) (Eq.trans (jj_tn (by omega)) (Eq.trans (jj_tn (by omega)) (Eq.trans (jj_tn (by omega)) (Eq.trans (jj_tn (by omega)) (Eq.trans (jj_tn (by omega)) (Eq.trans (jj_tn (by omega)) (Eq.trans (jj_tn (by omega)) (Eq.trans (jj_tn (by omega)) (Eq.trans (jj_tn (by omega)) hT)))))))))) rfl rfl ?_
  refine kk_aload_n (pc := 95) hX dX29_init_95 rfl ?_
  refine kk_iload (pc := 96) hX dX29_init_96 rfl ?_
  refine kk_putIF (pc := 98) hX (hC rfl) fl_X29_63_29 ⟨_, jc_29, rfl⟩ dX29_init_98 (Eq.trans (jj_tn (by omega)) (Eq.trans (jj_tn (by omega)) (Eq.trans (jj_tn (by omega)) (Eq.trans (jj_tn (by omega)) (Eq.trans (jj_tn (by omega)) (Eq.trans (jj_tn (by omega)) (Eq.trans (jj_tn (by omega)) (Eq.trans (jj_tn (by omega)) (Eq.trans (jj_tn (by omega)) (Eq.trans (jj_tn (by omega)) hT)))))))))) rfl rfl ?_
  refine kk_aload_n (pc := 101) hX dX29_init_101 rfl ?_
  refine kk_aload (pc := 102) hX dX29_init_102 rfl ?_
  refine kk_putRF (pc := 104) hX (hC rfl) fl_X29_66_29 ⟨_, jc_29, rfl⟩ dX29_init_104 (Eq.trans (jj_tn (by omega)) (Eq.trans (jj_tn (by omega)) (Eq.trans (jj_tn (by omega)) (Eq.trans (jj_tn (by omega)) (Eq.trans (jj_tn (by omega)) (Eq.trans (jj_tn (by omega)) (Eq.trans (jj_tn (by omega)) (Eq.trans (jj_tn (by omega)) (Eq.trans (jj_tn (by omega)) (Eq.trans (jj_tn (by omega)) hT)))))))))) rfl ?_
  refine kk_aload_n (pc := 107) hX dX29_init_107 rfl ?_
  refine kk_aload (pc := 108) hX dX29_init_108 rfl ?_
  refine kk_putR (pc := 110) hX fl_X29_70_29 dX29_init_110 (Eq.trans (jj_tn (by omega)) (Eq.trans (jj_tn (by omega)) (Eq.trans (jj_tn (by omega)) (Eq.trans (jj_tn (by omega)) (Eq.trans (jj_tn (by omega)) (Eq.trans (jj_tn (by omega)) (Eq.trans (jj_tn (by omega)) (Eq.trans (jj_tn (by omega)) (Eq.trans (jj_tn (by omega)) (Eq.trans (jj_tn (by omega)) hT)))))))))) rfl ?_
  refine kk_aload_n (pc := 113) hX dX29_init_113 rfl ?_
  refine kk_aload (pc := 114) hX dX29_init_114 rfl ?_
  refine kk_putRF (pc := 116) hX (hC rfl) fl_X29_74_29 ⟨_, jc_29, rfl⟩ dX29_init_116 (Eq.trans (jj_tn (by omega)) (Eq.trans (jj_tn (by omega)) (Eq.trans (jj_tn (by omega)) (Eq.trans (jj_tn (by omega)) (Eq.trans (jj_tn (by omega)) (Eq.trans (jj_tn (by omega)) (Eq.trans (jj_tn (by omega)) (Eq.trans (jj_tn (by omega)) (Eq.trans (jj_tn (by omega)) (Eq.trans (jj_tn (by omega)) hT)))))))))) rfl ?_
  exact kk_vret (pc := 119) hX dX29_init_119 hr ⟨Nat.le_refl _, Nat.le_refl _⟩ (⟨rfl, rfl, rfl, rfl, rfl⟩)

theorem v_TinitS (G : jj_G) (τ : jj_T) (I : jj_I) (L : jj_L) (r : jj_R) (T : Nat) (hT : τ T = some (.inl 29)) (hT7 : 7 ≤ T) (hf : ∀ i, 1 ≤ i → i ≤ 10 → τ (T + i) = none) (w : Nat) (hw : τ w = some (.inl 29)) (hwT : w < T) (dv : Int32) (hd : I w 3 = dv) (nu od bn : Int32) (bl pr ro : Option Nat) : kk_M G yX29_init (ws_ yX29_init cX29_init 8 none) { frames := 3, cells := 10, slots := 109, locals := 61 } [jR (some T), jI nu, jR (some w), jI od, jI bn, jR bl, jR pr, jR ro] true τ I L r (jj_eq none (jj_t (jj_t (jj_t (jj_t (jj_t (jj_t (jj_t (jj_t (jj_t (jj_t τ (T + 1) (.inl 30)) (T + 2) (.inr (2, 1))) (T + 3) (.inr (4, 1))) (T + 4) (.inl 30)) (T + 5) (.inr (2, 8))) (T + 6) (.inr (4, 8))) (T + 7) (.inl 31)) (T + 8) (.inr (2, 12))) (T + 9) (.inr (4, 12))) (T + 10) (.inr (2, 60))) (jj_u (jj_u (jj_u (jj_u (jj_z (jj_z (jj_z (jj_z (jj_z (jj_z (jj_z (jj_z (jj_z (jj_z I (T + 1) 0) (T + 2) 0) (T + 3) 0) (T + 4) 0) (T + 5) 0) (T + 6) 0) (T + 7) 0) (T + 8) 0) (T + 9) 0) (T + 10) 0) T 0 nu) T 2 od) T 3 (dv + 1)) T 4 bn) (jj_z (jj_z (jj_z (jj_z (jj_z (jj_z (jj_z (jj_u (jj_z (jj_z (jj_z L (T + 1) 0) (T + 2) 0) (T + 3) 0) T 13 17) (T + 4) 0) (T + 5) 0) (T + 6) 0) (T + 7) 0) (T + 8) 0) (T + 9) 0) (T + 10) 0) (jj_u (jj_u (jj_u (jj_u (jj_u (jj_z (jj_u (jj_u (jj_z (jj_u (jj_z (jj_z (jj_u (jj_u (jj_z (jj_u (jj_z (jj_z (jj_u (jj_u (jj_z (jj_u (jj_z (jj_z (jj_u r T 10 (some 1)) (T + 1) none) (T + 2) none) (T + 1) 0 (some (T + 2))) (T + 3) none) (T + 1) 1 (some (T + 3))) T 12 (some (T + 1))) (T + 4) none) (T + 5) none) (T + 4) 0 (some (T + 5))) (T + 6) none) (T + 4) 1 (some (T + 6))) T 14 (some (T + 4))) (T + 7) none) (T + 8) none) (T + 7) 0 (some (T + 8))) (T + 9) none) (T + 7) 1 (some (T + 9))) T 15 (some (T + 7))) (T + 10) none) T 16 (some (T + 10))) T 1 (some w)) T 5 bl) T 18 pr) T 19 ro)) jj_no := by
  refine kk_intro "BranchCells$Task" (by decide) rfl (Nat.le_of_ble_eq_true rfl) ?_
  intro X hG hX hr hN hC hF hAd
  have f1 : τ (T + 1) = none ∧ ¬ (1 ≤ T + 1 ∧ T + 1 ≤ 6) := ⟨hf 1 (by decide) (by decide), by omega⟩
  have f2 : τ (T + 2) = none ∧ ¬ (1 ≤ T + 2 ∧ T + 2 ≤ 6) := ⟨hf 2 (by decide) (by decide), by omega⟩
  have f3 : τ (T + 3) = none ∧ ¬ (1 ≤ T + 3 ∧ T + 3 ≤ 6) := ⟨hf 3 (by decide) (by decide), by omega⟩
  have f4 : τ (T + 4) = none ∧ ¬ (1 ≤ T + 4 ∧ T + 4 ≤ 6) := ⟨hf 4 (by decide) (by decide), by omega⟩
  have f5 : τ (T + 5) = none ∧ ¬ (1 ≤ T + 5 ∧ T + 5 ≤ 6) := ⟨hf 5 (by decide) (by decide), by omega⟩
  have f6 : τ (T + 6) = none ∧ ¬ (1 ≤ T + 6 ∧ T + 6 ≤ 6) := ⟨hf 6 (by decide) (by decide), by omega⟩
  have f7 : τ (T + 7) = none ∧ ¬ (1 ≤ T + 7 ∧ T + 7 ≤ 6) := ⟨hf 7 (by decide) (by decide), by omega⟩
  have f8 : τ (T + 8) = none ∧ ¬ (1 ≤ T + 8 ∧ T + 8 ≤ 6) := ⟨hf 8 (by decide) (by decide), by omega⟩
  have f9 : τ (T + 9) = none ∧ ¬ (1 ≤ T + 9 ∧ T + 9 ≤ 6) := ⟨hf 9 (by decide) (by decide), by omega⟩
  have f10 : τ (T + 10) = none ∧ ¬ (1 ≤ T + 10 ∧ T + 10 ≤ 6) := ⟨hf 10 (by decide) (by decide), by omega⟩
  refine kk_aload_n (pc := 0) hX dX29_init_0 rfl ?_
  refine kk_objInit (pc := 1) hX dX29_init_1 q771 q104 q105 ⟨Nat.le_of_ble_eq_true rfl, Nat.le_of_ble_eq_true rfl⟩ ?_
  refine kk_aload_n (pc := 4) hX dX29_init_4 rfl ?_
  refine kk_gets1 (pc := 5) hX dX29_init_5 q772 ?_
  refine kk_putR (pc := 8) hX fl_X29_15_29 dX29_init_8 hT rfl ?_
  refine kk_aload_n (pc := 11) hX dX29_init_11 rfl ?_
  refine kk_new (pc := 12) hX (T + 1) ⟨f1.1, f1.2⟩ (hF rfl) dX29_init_12 jc_30 q774 q775 q91 (by decide) ⟨Nat.le_of_ble_eq_true rfl, Nat.le_of_ble_eq_true rfl⟩ ?_
  refine kk_dup (pc := 15) hX dX29_init_15 rfl ?_
  refine kk_iconst (pc := 16) hX (v := 1) dX29_init_16 (by decide) ?_
  refine kk_callI (pc := 17) hX (v_Vinit30 X.1 _ _ _ _ (T + 1) (T + 2) (T + 3) 1 jj_ts ⟨((jj_tn (by omega)).trans f2.1), f2.2⟩ ⟨((jj_tn (by omega)).trans f3.1), f3.2⟩ (by omega) (by decide)) dX29_init_17 (lw_meth q778) ⟨q776, q777, q91, rfl⟩ ⟨by decide +kernel, by decide +kernel, by show _ = some (1 : Nat); decide +kernel⟩ ⟨Nat.le_of_ble_eq_true rfl, Nat.le_of_ble_eq_true rfl, Nat.le_of_ble_eq_true rfl, Nat.le_of_ble_eq_true rfl, Nat.le_of_ble_eq_true rfl⟩ (fun _ => hF rfl) rfl (jj_keq ?_) jj_kno
  refine kk_putRF (pc := 20) hX (hC rfl) fl_X29_25_29 ⟨_, jc_29, rfl⟩ dX29_init_20 (Eq.trans (jj_tn (by omega)) (Eq.trans (jj_tn (by omega)) (Eq.trans (jj_tn (by omega)) hT))) rfl ?_
  refine kk_aload_n (pc := 23) hX dX29_init_23 rfl ?_
  refine kk_ldc2 (pc := 24) hX (v := 17) q802 dX29_init_24 ?_
  refine kk_putL (pc := 27) hX fl_X29_31_29 dX29_init_27 (Eq.trans (jj_tn (by omega)) (Eq.trans (jj_tn (by omega)) (Eq.trans (jj_tn (by omega)) hT))) rfl ?_
  refine kk_aload_n (pc := 30) hX dX29_init_30 rfl ?_
  refine kk_new (pc := 31) hX (T + 4) ⟨((jj_tn (by omega)).trans ((jj_tn (by omega)).trans ((jj_tn (by omega)).trans f4.1))), f4.2⟩ (hF rfl) dX29_init_31 jc_30 q774 q775 q91 (by decide) ⟨Nat.le_of_ble_eq_true rfl, Nat.le_of_ble_eq_true rfl⟩ ?_
  refine kk_dup (pc := 34) hX dX29_init_34 rfl ?_
  refine kk_bipush (pc := 35) hX (v := 8) dX29_init_35 (by decide) ?_
  refine kk_callI (pc := 37) hX (v_Vinit30 X.1 _ _ _ _ (T + 4) (T + 5) (T + 6) 8 jj_ts ⟨((jj_tn (by omega)).trans ((jj_tn (by omega)).trans ((jj_tn (by omega)).trans ((jj_tn (by omega)).trans f5.1)))), f5.2⟩ ⟨((jj_tn (by omega)).trans ((jj_tn (by omega)).trans ((jj_tn (by omega)).trans ((jj_tn (by omega)).trans f6.1)))), f6.2⟩ (by omega) (by decide)) dX29_init_37 (lw_meth q778) ⟨q776, q777, q91, rfl⟩ ⟨by decide +kernel, by decide +kernel, by show _ = some (1 : Nat); decide +kernel⟩ ⟨Nat.le_of_ble_eq_true rfl, Nat.le_of_ble_eq_true rfl, Nat.le_of_ble_eq_true rfl, Nat.le_of_ble_eq_true rfl, Nat.le_of_ble_eq_true rfl⟩ (fun _ => hF rfl) rfl (jj_keq ?_) jj_kno
  refine kk_putRF (pc := 40) hX (hC rfl) fl_X29_35_29 ⟨_, jc_29, rfl⟩ dX29_init_40 (Eq.trans (jj_tn (by omega)) (Eq.trans (jj_tn (by omega)) (Eq.trans (jj_tn (by omega)) (Eq.trans (jj_tn (by omega)) (Eq.trans (jj_tn (by omega)) (Eq.trans (jj_tn (by omega)) hT)))))) rfl ?_
  refine kk_aload_n (pc := 43) hX dX29_init_43 rfl ?_
  refine kk_new (pc := 44) hX (T + 7) ⟨((jj_tn (by omega)).trans ((jj_tn (by omega)).trans ((jj_tn (by omega)).trans ((jj_tn (by omega)).trans ((jj_tn (by omega)).trans ((jj_tn (by omega)).trans f7.1)))))), f7.2⟩ (hF rfl) dX29_init_44 jc_31 q803 q804 q92 (by decide) ⟨Nat.le_of_ble_eq_true rfl, Nat.le_of_ble_eq_true rfl⟩ ?_
  refine kk_dup (pc := 47) hX dX29_init_47 rfl ?_
  refine kk_callI (pc := 48) hX (v_Pinit X.1 _ _ _ _ (T + 7) (T + 8) (T + 9) jj_ts ⟨((jj_tn (by omega)).trans ((jj_tn (by omega)).trans ((jj_tn (by omega)).trans ((jj_tn (by omega)).trans ((jj_tn (by omega)).trans ((jj_tn (by omega)).trans ((jj_tn (by omega)).trans f8.1))))))), f8.2⟩ ⟨((jj_tn (by omega)).trans ((jj_tn (by omega)).trans ((jj_tn (by omega)).trans ((jj_tn (by omega)).trans ((jj_tn (by omega)).trans ((jj_tn (by omega)).trans ((jj_tn (by omega)).trans f9.1))))))), f9.2⟩ (by omega)) dX29_init_48 (lw_meth q807) ⟨q805, q806, q92, rfl⟩ ⟨by decide +kernel, by decide +kernel, by show _ = some (0 : Nat); decide +kernel⟩ ⟨Nat.le_of_ble_eq_true rfl, Nat.le_of_ble_eq_true rfl, Nat.le_of_ble_eq_true rfl, Nat.le_of_ble_eq_true rfl, Nat.le_of_ble_eq_true rfl⟩ (fun _ => hF rfl) rfl (jj_keq ?_) jj_kno
  refine kk_putRF (pc := 51) hX (hC rfl) fl_X29_41_29 ⟨_, jc_29, rfl⟩ dX29_init_51 (Eq.trans (jj_tn (by omega)) (Eq.trans (jj_tn (by omega)) (Eq.trans (jj_tn (by omega)) (Eq.trans (jj_tn (by omega)) (Eq.trans (jj_tn (by omega)) (Eq.trans (jj_tn (by omega)) (Eq.trans (jj_tn (by omega)) (Eq.trans (jj_tn (by omega)) (Eq.trans (jj_tn (by omega)) hT))))))))) rfl ?_
  refine kk_aload_n (pc := 54) hX dX29_init_54 rfl ?_
  refine kk_bipush (pc := 55) hX (v := 60) dX29_init_55 (by decide) ?_
  refine kk_newa (pc := 57) hX 2 60 (T + 10) ⟨((jj_tn (by omega)).trans ((jj_tn (by omega)).trans ((jj_tn (by omega)).trans ((jj_tn (by omega)).trans ((jj_tn (by omega)).trans ((jj_tn (by omega)).trans ((jj_tn (by omega)).trans ((jj_tn (by omega)).trans ((jj_tn (by omega)).trans f10.1))))))))), f10.2⟩ (hF rfl) dX29_init_57 rfl (by decide) q647 rfl (by decide) ⟨Nat.le_of_ble_eq_true rfl, Nat.le_of_ble_eq_true rfl⟩ ?_
  refine kk_putRF (pc := 59) hX (hC rfl) fl_X29_45_29 ⟨_, jc_29, rfl⟩ dX29_init_59 (Eq.trans (jj_tn (by omega)) (Eq.trans (jj_tn (by omega)) (Eq.trans (jj_tn (by omega)) (Eq.trans (jj_tn (by omega)) (Eq.trans (jj_tn (by omega)) (Eq.trans (jj_tn (by omega)) (Eq.trans (jj_tn (by omega)) (Eq.trans (jj_tn (by omega)) (Eq.trans (jj_tn (by omega)) (Eq.trans (jj_tn (by omega)) hT)))))))))) rfl ?_
  refine kk_aload_n (pc := 62) hX dX29_init_62 rfl ?_
  refine kk_iload_n (pc := 63) hX dX29_init_63 rfl ?_
  refine kk_putIF (pc := 64) hX (hC rfl) fl_X29_49_29 ⟨_, jc_29, rfl⟩ dX29_init_64 (Eq.trans (jj_tn (by omega)) (Eq.trans (jj_tn (by omega)) (Eq.trans (jj_tn (by omega)) (Eq.trans (jj_tn (by omega)) (Eq.trans (jj_tn (by omega)) (Eq.trans (jj_tn (by omega)) (Eq.trans (jj_tn (by omega)) (Eq.trans (jj_tn (by omega)) (Eq.trans (jj_tn (by omega)) (Eq.trans (jj_tn (by omega)) hT)))))))))) rfl rfl ?_
  refine kk_aload_n (pc := 67) hX dX29_init_67 rfl ?_
  refine kk_aload_n (pc := 68) hX dX29_init_68 rfl ?_
  refine kk_putRF (pc := 69) hX (hC rfl) fl_X29_53_29 ⟨_, jc_29, rfl⟩ dX29_init_69 (Eq.trans (jj_tn (by omega)) (Eq.trans (jj_tn (by omega)) (Eq.trans (jj_tn (by omega)) (Eq.trans (jj_tn (by omega)) (Eq.trans (jj_tn (by omega)) (Eq.trans (jj_tn (by omega)) (Eq.trans (jj_tn (by omega)) (Eq.trans (jj_tn (by omega)) (Eq.trans (jj_tn (by omega)) (Eq.trans (jj_tn (by omega)) hT)))))))))) rfl ?_
  refine kk_aload_n (pc := 72) hX dX29_init_72 rfl ?_
  refine kk_iload_n (pc := 73) hX dX29_init_73 rfl ?_
  refine kk_putIF (pc := 74) hX (hC rfl) fl_X29_57_29 ⟨_, jc_29, rfl⟩ dX29_init_74 (Eq.trans (jj_tn (by omega)) (Eq.trans (jj_tn (by omega)) (Eq.trans (jj_tn (by omega)) (Eq.trans (jj_tn (by omega)) (Eq.trans (jj_tn (by omega)) (Eq.trans (jj_tn (by omega)) (Eq.trans (jj_tn (by omega)) (Eq.trans (jj_tn (by omega)) (Eq.trans (jj_tn (by omega)) (Eq.trans (jj_tn (by omega)) hT)))))))))) rfl rfl ?_
  refine kk_aload_n (pc := 77) hX dX29_init_77 rfl ?_
  refine kk_aload_n (pc := 78) hX dX29_init_78 rfl ?_
  refine kk_ifnonnull (pc := 79) hX 86 dX29_init_79 rfl (fun _ _ => ?_) (fun q => by cases q)
  refine kk_aload_n (pc := 86) hX dX29_init_86 rfl ?_
  refine kk_getI (pc := 87) hX fl_X29_60_29 dX29_init_87 (Eq.trans (jj_tn (by omega)) (Eq.trans (jj_tn (by omega)) (Eq.trans (jj_tn (by omega)) (Eq.trans (jj_tn (by omega)) (Eq.trans (jj_tn (by omega)) (Eq.trans (jj_tn (by omega)) (Eq.trans (jj_tn (by omega)) (Eq.trans (jj_tn (by omega)) (Eq.trans (jj_tn (by omega)) (Eq.trans (jj_tn (by omega)) hw)))))))))) rfl ?_
  refine kk_top dv (Eq.trans (jj_un (Or.inl (by omega))) (Eq.trans (jj_un (Or.inl (by omega))) (Eq.trans (congrFun (jj_zn (by omega)) _) (Eq.trans (congrFun (jj_zn (by omega)) _) (Eq.trans (congrFun (jj_zn (by omega)) _) (Eq.trans (congrFun (jj_zn (by omega)) _) (Eq.trans (congrFun (jj_zn (by omega)) _) (Eq.trans (congrFun (jj_zn (by omega)) _) (Eq.trans (congrFun (jj_zn (by omega)) _) (Eq.trans (congrFun (jj_zn (by omega)) _) (Eq.trans (congrFun (jj_zn (by omega)) _) (Eq.trans (congrFun (jj_zn (by omega)) _) hd)))))))))))) ?_
  refine kk_iconst (pc := 90) hX (v := 1) dX29_init_90 (by decide) ?_
  refine kk_iadd (pc := 91) hX dX29_init_91 ?_
  refine kk_putIF (pc := 92) hX (hC rfl) fl_X29_60_29 ⟨_, jc_29, rfl⟩ dX29_init_92 (Eq.trans (jj_tn (by omega)) (Eq.trans (jj_tn (by omega)) (Eq.trans (jj_tn (by omega)) (Eq.trans (jj_tn (by omega)) (Eq.trans (jj_tn (by omega)) (Eq.trans (jj_tn (by omega)) (Eq.trans (jj_tn (by omega)) (Eq.trans (jj_tn (by omega)) (Eq.trans (jj_tn (by omega)) (Eq.trans (jj_tn (by omega)) hT)))))))))) rfl rfl ?_
  refine kk_aload_n (pc := 95) hX dX29_init_95 rfl ?_
  refine kk_iload (pc := 96) hX dX29_init_96 rfl ?_
  refine kk_putIF (pc := 98) hX (hC rfl) fl_X29_63_29 ⟨_, jc_29, rfl⟩ dX29_init_98 (Eq.trans (jj_tn (by omega)) (Eq.trans (jj_tn (by omega)) (Eq.trans (jj_tn (by omega)) (Eq.trans (jj_tn (by omega)) (Eq.trans (jj_tn (by omega)) (Eq.trans (jj_tn (by omega)) (Eq.trans (jj_tn (by omega)) (Eq.trans (jj_tn (by omega)) (Eq.trans (jj_tn (by omega)) (Eq.trans (jj_tn (by omega)) hT)))))))))) rfl rfl ?_
  refine kk_aload_n (pc := 101) hX dX29_init_101 rfl ?_
  refine kk_aload (pc := 102) hX dX29_init_102 rfl ?_
  refine kk_putRF (pc := 104) hX (hC rfl) fl_X29_66_29 ⟨_, jc_29, rfl⟩ dX29_init_104 (Eq.trans (jj_tn (by omega)) (Eq.trans (jj_tn (by omega)) (Eq.trans (jj_tn (by omega)) (Eq.trans (jj_tn (by omega)) (Eq.trans (jj_tn (by omega)) (Eq.trans (jj_tn (by omega)) (Eq.trans (jj_tn (by omega)) (Eq.trans (jj_tn (by omega)) (Eq.trans (jj_tn (by omega)) (Eq.trans (jj_tn (by omega)) hT)))))))))) rfl ?_
  refine kk_aload_n (pc := 107) hX dX29_init_107 rfl ?_
  refine kk_aload (pc := 108) hX dX29_init_108 rfl ?_
  refine kk_putR (pc := 110) hX fl_X29_70_29 dX29_init_110 (Eq.trans (jj_tn (by omega)) (Eq.trans (jj_tn (by omega)) (Eq.trans (jj_tn (by omega)) (Eq.trans (jj_tn (by omega)) (Eq.trans (jj_tn (by omega)) (Eq.trans (jj_tn (by omega)) (Eq.trans (jj_tn (by omega)) (Eq.trans (jj_tn (by omega)) (Eq.trans (jj_tn (by omega)) (Eq.trans (jj_tn (by omega)) hT)))))))))) rfl ?_
  refine kk_aload_n (pc := 113) hX dX29_init_113 rfl ?_
  refine kk_aload (pc := 114) hX dX29_init_114 rfl ?_
  refine kk_putRF (pc := 116) hX (hC rfl) fl_X29_74_29 ⟨_, jc_29, rfl⟩ dX29_init_116 (Eq.trans (jj_tn (by omega)) (Eq.trans (jj_tn (by omega)) (Eq.trans (jj_tn (by omega)) (Eq.trans (jj_tn (by omega)) (Eq.trans (jj_tn (by omega)) (Eq.trans (jj_tn (by omega)) (Eq.trans (jj_tn (by omega)) (Eq.trans (jj_tn (by omega)) (Eq.trans (jj_tn (by omega)) (Eq.trans (jj_tn (by omega)) hT)))))))))) rfl ?_
  exact kk_vret (pc := 119) hX dX29_init_119 hr ⟨Nat.le_refl _, Nat.le_refl _⟩ (⟨rfl, rfl, rfl, rfl, rfl⟩)

theorem gd_mem {ss : List Nat} {i : Nat} (h : i < ss.length) : ss.getD i 0 ∈ ss := by
  rw [List.getD_eq_getElem?_getD, List.getElem?_eq_getElem h]
  exact List.getElem_mem h
theorem v_cseg (G : jj_G) (τ : jj_T) (I : jj_I) (L : jj_L) (r : jj_R) {β : Nat} {ss : List Nat} {e N : Nat → Nat} {ρ : jm} {pl : Nat → Int32} {σ : jm} (h : cr_rel β ss e N ρ pl σ τ I L r) (b : Int32) (hb : cr_in ss b) (h79 : nv (σ.1 0 36) + 1 ≤ 79) (hn : σ.1 0 36 = nI (nv (σ.1 0 36))) (h00 : τ 0 = some (.inr (3, 0))) (hlen : ss.length < 100) (q : Nat) (hq : τ q = none ∧ ¬ (1 ≤ q ∧ q ≤ 6)) (hq9 : β + 10000 ≤ q) : kk_M G yX0_segment (ws_ yX0_segment cX0_segment 3 (some (.object "BranchCells$Segment"))) { frames := 7, cells := 3, slots := 281, locals := 164 } [jR (some 10), jR (cr_sr β b)] true τ I L r (fun v' τ' I' L' r' => v' = some (jR (some (β + 1000 + 10 * nv (σ.1 0 36)))) ∧ (∀ x, x ≠ q → ¬ (β + 1000 + 10 * nv (σ.1 0 36) ≤ x ∧ x < β + 1000 + 10 * nv (σ.1 0 36) + 2) → τ' x = τ x) ∧ ∃ e' N', cr_rel β (ss ++ [nv (σ.1 0 36)]) e' N' ρ pl (m_ns b σ) τ' I' L' r') jj_no := by
  refine kk_intro "BranchCells" (by decide) rfl (Nat.le_of_ble_eq_true rfl) ?_
  intro X hG hX hr hN hC hF hAd
  have h9 := h.bd
  have hbe := h.e.be
  have ho := h.e.ou 16 (by decide) (by decide)
  have hlo := h.e.lo 16 (by decide) (by decide)
  have hne := h.ne hq.1
  have hn16 := hne 16 (by decide) (by decide)
  have fS : τ (β + 1000 + 10 * nv (σ.1 0 36)) = none ∧ ¬ (1 ≤ (β + 1000 + 10 * nv (σ.1 0 36)) ∧ (β + 1000 + 10 * nv (σ.1 0 36)) ≤ 6) := ⟨h.fr.s _ (Nat.le_refl _) (by omega) 0 (by decide), by omega⟩
  have fS1 : τ (β + 1000 + 10 * nv (σ.1 0 36) + 1) = none ∧ ¬ (1 ≤ (β + 1000 + 10 * nv (σ.1 0 36) + 1) ∧ (β + 1000 + 10 * nv (σ.1 0 36) + 1) ≤ 6) := ⟨h.fr.s _ (Nat.le_refl _) (by omega) 1 (by decide), by omega⟩
  refine kk_new (pc := 0) hX (β + 1000 + 10 * nv (σ.1 0 36)) ⟨fS.1, fS.2⟩ (hF rfl) dX0_segment_0 jc_28 q719 q720 q87 (by decide) ⟨Nat.le_of_ble_eq_true rfl, Nat.le_of_ble_eq_true rfl⟩ ?_
  refine kk_dup (pc := 3) hX dX0_segment_3 rfl ?_
  refine kk_aload_n (pc := 4) hX dX0_segment_4 rfl ?_
  refine kk_getI (pc := 5) hX fl_X0_130_0 dX0_segment_5 (Eq.trans (jj_tn (by omega)) h.ro.k0) rfl ?_
  refine kk_top (σ.1 0 36) (Eq.trans (congrFun (jj_zn (by omega)) _) h.sc.se) ?_
  refine kk_aload_n (pc := 8) hX dX0_segment_8 rfl ?_
  refine kk_callI (pc := 9) hX (v_Sinit X.1 _ _ _ _ (β + 1000 + 10 * nv (σ.1 0 36)) (β + 1000 + 10 * nv (σ.1 0 36) + 1) jj_ts ⟨((jj_tn (by omega)).trans fS1.1), fS1.2⟩ (σ.1 0 36) (cr_sr β b)) dX0_segment_9 (lw_meth q723) ⟨q721, q722, q87, rfl⟩ ⟨by decide +kernel, by decide +kernel, by show _ = some (2 : Nat); decide +kernel⟩ ⟨Nat.le_of_ble_eq_true rfl, Nat.le_of_ble_eq_true rfl, Nat.le_of_ble_eq_true rfl, Nat.le_of_ble_eq_true rfl, Nat.le_of_ble_eq_true rfl⟩ (fun _ => hF rfl) rfl (jj_keq ?_) jj_kno
  refine kk_astore_n (pc := 12) hX dX0_segment_12 (by decide) ?_
  refine kk_aload_n (pc := 13) hX dX0_segment_13 rfl ?_
  refine kk_dup (pc := 14) hX dX0_segment_14 rfl ?_
  refine kk_getI (pc := 15) hX fl_X0_130_0 dX0_segment_15 (Eq.trans (jj_tn (by omega)) (Eq.trans (jj_tn (by omega)) h.ro.k0)) rfl ?_
  refine kk_top (σ.1 0 36) (Eq.trans (jj_un (Or.inl (by omega))) (Eq.trans (congrFun (jj_zn (by omega)) _) (Eq.trans (congrFun (jj_zn (by omega)) _) h.sc.se))) ?_
  refine kk_iconst (pc := 18) hX (v := 1) dX0_segment_18 (by decide) ?_
  refine kk_iadd (pc := 19) hX dX0_segment_19 ?_
  refine kk_putI (pc := 20) hX fl_X0_130_0 dX0_segment_20 (Eq.trans (jj_tn (by omega)) (Eq.trans (jj_tn (by omega)) h.ro.k0)) rfl rfl ?_
  refine kk_aload_n (pc := 23) hX dX0_segment_23 rfl ?_
  refine kk_getR (pc := 24) hX (x := some 16) fl_X0_113_0 dX0_segment_24 (Eq.trans (jj_tn (by omega)) (Eq.trans (jj_tn (by omega)) h.ro.k0)) rfl (Eq.trans (jj_un (Or.inl (by omega))) (Eq.trans (jj_un (Or.inl (by omega))) (Eq.trans (congrFun (jj_zn (by omega)) _) (Eq.trans (congrFun (jj_zn (by omega)) _) h.ro.l6)))) ?_
  refine kk_aload_n (pc := 27) hX dX0_segment_27 rfl ?_
  have hl2 : cr_lst 16 (e 16) (N 16) ss.length (fun k => β + 1000 + 10 * ss.getD k 0) (jj_t (jj_t τ (β + 1000 + 10 * nv (σ.1 0 36)) (.inl 28)) (β + 1000 + 10 * nv (σ.1 0 36) + 1) (.inr (2, 16))) (jj_u (jj_u (jj_z (jj_z I (β + 1000 + 10 * nv (σ.1 0 36)) 0) (β + 1000 + 10 * nv (σ.1 0 36) + 1) 0) (β + 1000 + 10 * nv (σ.1 0 36)) 0 (σ.1 0 36)) 10 7 ((σ.1 0 36) + 1)) (jj_u (jj_u (jj_z (jj_z r (β + 1000 + 10 * nv (σ.1 0 36)) none) (β + 1000 + 10 * nv (σ.1 0 36) + 1) none) (β + 1000 + 10 * nv (σ.1 0 36)) 2 (some (β + 1000 + 10 * nv (σ.1 0 36) + 1))) (β + 1000 + 10 * nv (σ.1 0 36)) 1 (cr_sr β b)) := h.ls.cg (Eq.trans (jj_tn (by omega)) (jj_tn (by omega))) (congrFun (Eq.trans (jj_ua (by omega)) (Eq.trans (jj_ua (by omega)) (Eq.trans (jj_zn (by omega)) (jj_zn (by omega))))) 2) (Eq.trans (jj_ua (by omega)) (Eq.trans (jj_ua (by omega)) (Eq.trans (jj_zn (by omega)) (jj_zn (by omega))))) (Eq.trans (jj_tn (by omega)) (jj_tn (by omega))) (Eq.trans (jj_ua (by omega)) (Eq.trans (jj_ua (by omega)) (Eq.trans (jj_zn (by omega)) (jj_zn (by omega)))))
  have hel : ∀ i, i < ss.length → (jj_t (jj_t τ (β + 1000 + 10 * nv (σ.1 0 36)) (.inl 28)) (β + 1000 + 10 * nv (σ.1 0 36) + 1) (.inr (2, 16))) (β + 1000 + 10 * ss.getD i 0) = some (.inl 28) := fun i hi => by
    have hm := h.ss.lt _ (gd_mem hi)
    exact Eq.trans (Eq.trans (jj_tn (by omega)) (jj_tn (by omega))) (h.sg _ hm).k0
  refine kk_callF (pc := 28) hX (v_ladd X.1 _ _ _ _ hl2 (β + 1000 + 10 * nv (σ.1 0 36)) (Eq.trans (jj_tn (by omega)) jj_ts) jc_28 (jj_inT q1836 rfl) hel (Eq.trans (Eq.trans (jj_tn (by omega)) (jj_tn (by omega))) h00) hlen q ⟨Eq.trans (Eq.trans (jj_tn (by omega)) (jj_tn (by omega))) hq.1, hq.2⟩) dX0_segment_28 (lw_app (jj_wf q503 q506 q508 q53) (lw_meth q510)) (by decide +kernel) ⟨by decide +kernel, by decide +kernel, by show _ = some (1 : Nat); decide +kernel⟩ ⟨Nat.le_of_ble_eq_true rfl, Nat.le_of_ble_eq_true rfl, Nat.le_of_ble_eq_true rfl, Nat.le_of_ble_eq_true rfl, Nat.le_of_ble_eq_true rfl⟩ (fun _ => hF rfl) (Eq.trans (jj_tn (by omega)) (Eq.trans (jj_tn (by omega)) h.ls.k0)) jc_33 rfl (fun _ τ2 I2 L2 r2 hP => ?_) jj_kno
  obtain ⟨rfl, e2, N2, hl3, he2, hth2, hτ2, hI2, hL2, hr2⟩ := hP
  refine kk_pop (pc := 33) hX dX0_segment_33 rfl ?_
  refine kk_aload_n (pc := 34) hX dX0_segment_34 rfl ?_
  refine kk_aret (pc := 35) hX dX0_segment_35 hr ⟨Nat.le_refl _, Nat.le_refl _⟩ (Or.inl ⟨_, rfl⟩) ?_
  refine ⟨rfl, fun x h1 h2 => (hτ2 x h1).trans (Eq.trans (jj_tn (by omega)) (jj_tn (by omega))), _, _, h.addseg b hb h79 hn hq9 hq.1 (fun x h1 h2 => (hτ2 x h1).trans (Eq.trans (jj_tn (by omega)) (jj_tn (by omega)))) (fun x h1 h2 h3 h4 => (hI2 x h3 h2).trans (Eq.trans (jj_ua (by omega)) (Eq.trans (jj_ua (by omega)) (Eq.trans (jj_zn (by omega)) (jj_zn (by omega)))))) (fun j hj => (congrFun (hI2 10 (by omega) (by decide)) j).trans (Eq.trans (jj_un (Or.inr hj)) (congrFun (Eq.trans (Eq.trans (jj_ua (by omega)) (Eq.trans (jj_zn (by omega)) (jj_zn (by omega)))) rfl) j))) ((congrFun (hI2 10 (by omega) (by decide)) 7).trans jj_us) (fun x h1 h2 => (hL2 x h1).trans (Eq.trans (jj_zn (by omega)) (jj_zn (by omega)))) (fun x h1 h2 h3 h4 => (hr2 x h1 h2 h3).trans (Eq.trans (jj_ua (by omega)) (Eq.trans (jj_ua (by omega)) (Eq.trans (jj_zn (by omega)) (jj_zn (by omega)))))) hl3 he2 ?_⟩
  refine ⟨(hτ2 (β + 1000 + 10 * nv (σ.1 0 36)) (by omega)).trans (Eq.trans (jj_tn (by omega)) jj_ts), (hτ2 (β + 1000 + 10 * nv (σ.1 0 36) + 1) (by omega)).trans jj_ts, (congrFun (hr2 (β + 1000 + 10 * nv (σ.1 0 36)) (by omega) (by omega) (by omega)) 2).trans (Eq.trans (jj_un (Or.inr (by decide))) jj_us), (congrFun (hI2 (β + 1000 + 10 * nv (σ.1 0 36)) (by omega) (by omega)) 0).trans (Eq.trans (Eq.trans (jj_un (Or.inl (by omega))) jj_us) hn), fun _ => (congrFun (hr2 (β + 1000 + 10 * nv (σ.1 0 36)) (by omega) (by omega) (by omega)) 1).trans (Eq.trans jj_us (congrArg (cr_sr β) m_ns_38.symm)), (congrFun (hI2 (β + 1000 + 10 * nv (σ.1 0 36)) (by omega) (by omega)) 3).trans (Eq.trans (Eq.trans (jj_un (Or.inl (by omega))) (Eq.trans (jj_un (Or.inr (by decide))) (Eq.trans (congrFun (jj_zn (by omega)) _) jj_zs))) ?_), fun c hc hv => absurd (m_ns_39 hc) hv⟩
  rw [cr_sb_0 16 (fun c hc => m_ns_39 hc)]
  rfl
