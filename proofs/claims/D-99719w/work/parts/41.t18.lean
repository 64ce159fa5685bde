set_option maxRecDepth 100000
/-! ===== the twin, 18: sets weighed, amounts ===== -/
section TZ
variable {G : xG} {d : Nat} {h : xH} {T0 : Nat} {s : tS} {W : Wd}
theorem isS_ix {x : Int32} (hW : wOK W) (h : isS W x) : ∃ k, k < 2 ^ wN W ∧ k < 256 ∧ x = nI k ∧ iN x = k := by
  have h8 := hW.2.2.1
  have p8 : 2 ^ wN W ≤ 2 ^ 8 := Nat.pow_le_pow_right (by decide) h8
  have p0 : 1 ≤ 2 ^ wN W := Nat.one_le_two_pow
  obtain ⟨k, hk, e1, e2⟩ := inN (2 ^ wN W - 1) (m := nI (2 ^ wN W - 1)) (by rw [nI_toInt (by omega)]) (by omega) h
  exact ⟨k, by omega, by omega, e1, e2⟩
theorem c_heavy (hI : tIn s W) (hW : wOK W) (set : Nat) (hset : set < 256) : xMet G (d + 1) 0 0 m_X9_heavy [.ref T0, .int (nI set)] (tw T0 h s) (xI (.int (nI (hvN (wM W) set (wN W)))) (tw T0 h s)) := by
  refine xMet.of [some (.ref T0), some (.int (nI set)), none, none] pl_X9 rfl (Nat.le_of_ble_eq_true rfl) ?_
  have hB := hW.2.2.2.2.2.1
  have h8 := hW.2.2.1
  have j448 : tRow 448 := Or.inl rfl
  refine x_iconst dX9_heavy_0 0 rfl ?_
  refine xsi2 dX9_heavy_1 (by decide) rfl ?_
  refine x_iconst dX9_heavy_2 0 rfl ?_
  refine xsi3 dX9_heavy_3 (by decide) rfl ?_
  refine xfor (fun a => xRun G m_X9_heavy (d + 1) 0 0 4 [some (.ref T0), some (.int (nI set)), some (.int (nI (hvN (wM W) set a))), some (.int (nI a))] [] (tw T0 h s) (xI (.int (nI (hvN (wM W) set (wN W)))) (tw T0 h s))) (wN W) ?_ ?_
  · intro a ha ih
    have nx : ∀ v, v = (if set.testBit a = true then (wM W).1.getD a 0 else 0) → xRun G m_X9_heavy (d + 1) 0 0 35 [some (.ref T0), some (.int (nI set)), some (.int (nI (hvN (wM W) set a))), some (.int (nI a))] [.int (nI v), .int (nI (hvN (wM W) set a))] (tw T0 h s) (xI (.int (nI (hvN (wM W) set (wN W)))) (tw T0 h s)) := by
      intro v hv
      subst hv
      refine x_iadd dX9_heavy_35 ?_
      rw [nI_add]
      refine xsi2 dX9_heavy_36 (by decide) rfl ?_
      refine xinc3 _ dX9_heavy_37 (by decide) rfl (nI_1 a) ?_
      refine x_goto 4 dX9_heavy_40 rfl ?_
      exact ih
    refine x_iload_n dX9_heavy_4 rfl ?_
    refine x_aload_n dX9_heavy_5 rfl ?_
    refine t_ga 4 dX9_heavy_6 f_X9_23_27 (by decide) rfl (by decide) ?_
    refine x_iconst dX9_heavy_9 0 rfl ?_
    refine t_ia 0 dX9_heavy_10 hI.1 (by decide) rfl (by decide) hI.2.2.2.1.1 ?_
    refine x_icmp_ge 43 dX9_heavy_11 rfl (fun hc9 => absurd hc9 (nI_ge ha (by omega))) (fun _ => ?_)
    refine x_iload_n dX9_heavy_14 rfl ?_
    refine x_iload_n dX9_heavy_15 rfl ?_
    refine x_at 16 rfl ?_
    refine x_iload_n dX9_heavy_16 rfl ?_
    refine xiS2 dX9_heavy_17 s_X9_345 (Nat.le_of_ble_eq_true rfl) (c_has _ _) ?_
    refine x_if_eq 34 dX9_heavy_20 rfl (fun c1 => ?_) (fun c1 => ?_)
    · have c2 := b2_eq.mp c1
      rw [bt_nI (by omega)] at c2
      refine x_iconst dX9_heavy_34 0 rfl ?_
      exact nx 0 (by rw [c2]; rfl)
    · have c2 := b2_ne.mp c1
      rw [bt_nI (by omega)] at c2
      refine x_aload_n dX9_heavy_23 rfl ?_
      refine t_ga 448 dX9_heavy_24 f_X9_61_27 (by decide) rfl (by decide) ?_
      refine x_iconst dX9_heavy_27 0 rfl ?_
      refine x_iload_n dX9_heavy_28 rfl ?_
      refine x_iadd dX9_heavy_29 ?_
      refine t_rj a dX9_heavy_30 hI.1 j448 hI.2.2.2.2.2.1 (ix_w _) (by omega) (mrow_w hB.1 (by omega)) ?_
      refine x_goto 35 dX9_heavy_31 rfl ?_
      exact nx _ (by rw [if_pos c2])
  · refine x_iload_n dX9_heavy_4 rfl ?_
    refine x_aload_n dX9_heavy_5 rfl ?_
    refine t_ga 4 dX9_heavy_6 f_X9_23_27 (by decide) rfl (by decide) ?_
    refine x_iconst dX9_heavy_9 0 rfl ?_
    refine t_ia 0 dX9_heavy_10 hI.1 (by decide) rfl (by decide) hI.2.2.2.1.1 ?_
    refine x_icmp_ge 43 dX9_heavy_11 rfl (fun _ => ?_) (fun hc9 => absurd (Int32.le_refl _) hc9)
    refine x_iload_n dX9_heavy_43 rfl ?_
    exact x_ireturn dX9_heavy_44 rfl ⟨rfl, rfl⟩
theorem lvF_b {M : Mk} {n th : Nat} (hw : ∀ a, M.1.getD a 0 ≤ 60) (hn : n ≤ 8) : ∀ k, (lvF M n th k).1 ≤ k ∧ ∀ l, (lvF M n th k).2 = some l → l < 1000
  | 0 => ⟨Nat.le_refl _, fun _ h => nomatch h⟩
  | k + 1 => by
    have ih := lvF_b (M := M) (n := n) (th := th) hw hn k
    have hA : lvA M n th (k + 1) < 1000 := by
      have h1 := hvN_le hw (set := k + 1) n
      have h2 := hvN_le hw (set := th &&& nt (k + 1)) n
      unfold lvA apN
      omega
    unfold lvF lvS
    split
    · exact ⟨by omega, ih.2⟩
    · split
      · exact ⟨Nat.le_refl _, fun l h => by cases h; exact hA⟩
      · next l hl =>
        split
        · exact ⟨by omega, ih.2⟩
        · exact ⟨Nat.le_refl _, fun l h => by cases h; exact hA⟩
theorem p_level (hI : tIn s W) (hW : wOK W) (hb : G.2.2.1 ≤ T0) (th x : Int32) : xMet G (d + 3) 0 0 m_X9_level [.ref T0, .int th, .int x] (tw T0 h s) (tQ T0 h (oLevel W th x)) := by
  refine xMet.of [some (.ref T0), some (.int th), some (.int x), none, none, none, none, none, none, none] pl_X9 rfl (Nat.le_of_ble_eq_true rfl) ?_
  have hI0 := hI.J hW ((tJ.refl hI.1).seti (k := 0) (v := 0) rfl)
  have hB := hW.2.2.2.2.2.1
  have h8 := hW.2.2.1
  have no2 : ¬ (isS W th ∧ 0 ≤ x ∧ x ≤ 1) → xRun G m_X9_level (d + 3) 0 0 23 [some (.ref T0), some (.int th), some (.int x), none, none, none, none, none, none, none] [.ref T0] (tw T0 h (seti s 0 0)) (tQ T0 h (oLevel W th x)) := by
    intro z
    rw [oLevel, if_neg z]
    refine x_iconst dX9_level_23 1 rfl ?_
    refine x_goto 28 dX9_level_24 rfl ?_
    refine x_iconst dX9_level_28 1 rfl ?_
    refine x_iconst dX9_level_29 1 rfl ?_
    refine xiV3 dX9_level_30 v_X9_171_27 tw_get0 (Nat.le_of_ble_eq_true rfl) (c_badT hI0.1 hb rfl _ (by decide) 1 (by decide)) ?_
    refine x_if_eq 38 dX9_level_33 rfl (fun hc9 => absurd hc9 (by decide)) (fun _ => ?_)
    refine x_iconst dX9_level_36 0 rfl ?_
    exact x_ireturn dX9_level_37 rfl (tQ.mk rfl (hI0.ref (by decide)) rfl)
  refine x_aload_n dX9_level_0 rfl ?_
  refine x_iconst dX9_level_1 0 rfl ?_
  refine t_pi dX9_level_2 p_X9_92_27 rfl (by decide) hb ?_
  refine x_aload_n dX9_level_5 rfl ?_
  refine x_aload_n dX9_level_6 rfl ?_
  refine x_iload_n dX9_level_7 rfl ?_
  refine xiV1 dX9_level_8 v_X9_379_27 tw_get0 (Nat.le_of_ble_eq_true rfl) (c_isSet hI0 hW _) ?_
  refine x_if_eq 23 dX9_level_11 rfl (fun c3 => ?_) (fun c3 => ?_)
  · exact no2 (fun z => of_decide_eq_false (b2_eq.mp c3) z.1)
  · have c4 := of_decide_eq_true (b2_ne.mp c3)
    refine x_iload_n dX9_level_14 rfl ?_
    refine x_iconst dX9_level_15 0 rfl ?_
    refine x_iconst dX9_level_16 1 rfl ?_
    refine xiS3 dX9_level_17 s_X9_126 (Nat.le_of_ble_eq_true rfl) (c_in _ _ _) ?_
    refine x_if_ne 27 dX9_level_20 rfl (fun c5 => ?_) (fun c5 => ?_)
    · have c6 := of_decide_eq_true (b2_ne.mp c5)
      rw [oLevel, if_pos ⟨c4, c6⟩]
      obtain ⟨t, ht, t256, rfl, et⟩ := isS_ix hW c4
      rw [et]
      refine x_iconst dX9_level_27 0 rfl ?_
      refine x_iconst dX9_level_28 1 rfl ?_
      refine x_iconst dX9_level_29 1 rfl ?_
      refine xiV3 dX9_level_30 v_X9_171_27 tw_get0 (Nat.le_of_ble_eq_true rfl) (c_badF hI0.1 hb rfl _ 1 (by decide)) ?_
      refine x_if_eq 38 dX9_level_33 rfl (fun _ => ?_) (fun hc9 => absurd (rfl) hc9)
      refine x_iconst dX9_level_38 0 rfl ?_
      refine xsi3 dX9_level_39 (by decide) rfl ?_
      refine x_iconst dX9_level_40 (-1) rfl ?_
      refine x_at 41 rfl ?_
      refine xsi4 dX9_level_41 (by decide) rfl ?_
      refine x_iload_n dX9_level_43 rfl ?_
      refine x_iload_n dX9_level_44 rfl ?_
      refine x_ineg dX9_level_45 ?_
      refine x_iand dX9_level_46 ?_
      rw [low_eq t t256]
      refine xsi5 dX9_level_47 (by decide) rfl ?_
      refine x_iconst dX9_level_49 1 rfl ?_
      refine xsi6 dX9_level_50 (by decide) rfl ?_
      suffices hh : ∀ x7 x8 x9, xRun G m_X9_level (d + 3) 0 0 52 [some (.ref T0), some (.int (nI t)), some (.int x), some (.int (nI (lvF (wM W) (wN W) t 0).1)), some (.int (oN (lvF (wM W) (wN W) t 0).2)), some (.int (nI (lowN t))), some (.int (nI (0 + 1))), x7, x8, x9] [] (tw T0 h (seti s 0 0)) (tQ T0 h (0, if x = 1 then nI (lvF (wM W) (wN W) t t).1 else nI ((lvF (wM W) (wN W) t t).2.getD 0), W)) from hh _ _ _
      refine xfor (fun k => ∀ x7 x8 x9, xRun G m_X9_level (d + 3) 0 0 52 [some (.ref T0), some (.int (nI t)), some (.int x), some (.int (nI (lvF (wM W) (wN W) t k).1)), some (.int (oN (lvF (wM W) (wN W) t k).2)), some (.int (nI (lowN t))), some (.int (nI (k + 1))), x7, x8, x9] [] (tw T0 h (seti s 0 0)) (tQ T0 h (0, if x = 1 then nI (lvF (wM W) (wN W) t t).1 else nI ((lvF (wM W) (wN W) t t).2.getD 0), W))) t ?_ ?_
      · intro k hk ih x7 x8 x9
        have hbk := lvF_b (M := wM W) (n := wN W) (th := t) hB.2.1 h8 k
        generalize hp : lvF (wM W) (wN W) t k = p at hbk
        have nx : ∀ q x7 x8 x9, lvS (wM W) (wN W) t p (k + 1) = q → xRun G m_X9_level (d + 3) 0 0 136 [some (.ref T0), some (.int (nI t)), some (.int x), some (.int (nI q.1)), some (.int (oN q.2)), some (.int (nI (lowN t))), some (.int (nI (k + 1))), x7, x8, x9] [] (tw T0 h (seti s 0 0)) (tQ T0 h (0, if x = 1 then nI (lvF (wM W) (wN W) t t).1 else nI ((lvF (wM W) (wN W) t t).2.getD 0), W)) := by
          intro q x7 x8 x9 hq
          have e : lvF (wM W) (wN W) t (k + 1) = q := by rw [← hq, ← hp]; rfl
          rw [e] at ih
          refine xinc6 _ dX9_level_136 (by decide) rfl (nI_1 _) ?_
          refine x_goto 52 dX9_level_139 rfl ?_
          exact ih _ _ _
        have la : (k + 1) &&& nt t < 256 := Nat.lt_of_le_of_lt Nat.and_le_left (by omega)
        have lb : (k + 1) &&& lowN t < 256 := Nat.lt_of_le_of_lt Nat.and_le_left (by omega)
        have lc : t &&& nt (k + 1) < 256 := Nat.lt_of_le_of_lt Nat.and_le_left (by omega)
        refine x_iload dX9_level_52 rfl ?_
        refine x_iload_n dX9_level_54 rfl ?_
        refine x_icmp_gt 142 dX9_level_55 rfl (fun hc9 => absurd hc9 (nI_nlt (by omega) (by omega))) (fun _ => ?_)
        refine x_iload dX9_level_58 rfl ?_
        refine x_iload_n dX9_level_60 rfl ?_
        refine x_iconst dX9_level_61 (-1) rfl ?_
        refine x_ixor dX9_level_62 ?_
        rw [nI_nt]
        refine x_iand dX9_level_63 ?_
        rw [nI_and]
        refine x_if_ne 136 dX9_level_64 rfl (fun c7 => ?_) (fun c7 => ?_)
        · have c8 : ¬ (k + 1) &&& nt t = 0 := fun z => c7 (by rw [z]; rfl)
          exact nx p _ _ _ (by unfold lvS; rw [if_pos (Or.inl c8)])
        · have c8 : (k + 1) &&& nt t = 0 := (nI_eq (by omega) (b := 0) (by decide)).mp c7
          refine x_iload dX9_level_67 rfl ?_
          refine x_iload dX9_level_69 rfl ?_
          refine x_iand dX9_level_71 ?_
          rw [nI_and]
          refine x_if_ne 78 dX9_level_72 rfl (fun c9 => ?_) (fun c9 => ?_)
          · have c10 : ¬ (k + 1) &&& lowN t = 0 := fun z => c9 (by rw [z]; rfl)
            have cc : ¬ (¬ (k + 1) &&& nt t = 0 ∨ (k + 1) &&& lowN t = 0) := fun z => z.elim (fun y => y c8) c10
            have h1 := hvN_le hB.2.1 (set := k + 1) (wN W)
            have h2 := hvN_le hB.2.1 (set := t &&& nt (k + 1)) (wN W)
            have hA : lvA (wM W) (wN W) t (k + 1) < 1000 := by unfold lvA apN; omega
            refine x_aload_n dX9_level_78 rfl ?_
            refine x_iload dX9_level_79 rfl ?_
            refine xiV1 dX9_level_81 v_X9_385_27 tw_get0 (Nat.le_of_ble_eq_true rfl) (c_heavy hI0 hW (k + 1) (by omega)) ?_
            refine xsi7 dX9_level_84 (by decide) rfl ?_
            refine x_aload_n dX9_level_86 rfl ?_
            refine x_iload_n dX9_level_87 rfl ?_
            refine x_iload dX9_level_88 rfl ?_
            refine x_iconst dX9_level_90 (-1) rfl ?_
            refine x_ixor dX9_level_91 ?_
            rw [nI_nt]
            refine x_iand dX9_level_92 ?_
            rw [nI_and]
            refine xiV1 dX9_level_93 v_X9_385_27 tw_get0 (Nat.le_of_ble_eq_true rfl) (c_heavy hI0 hW (t &&& nt (k + 1)) lc) ?_
            refine xsi8 dX9_level_96 (by decide) rfl ?_
            refine x_iload dX9_level_98 rfl ?_
            refine x_iload dX9_level_100 rfl ?_
            refine x_isub dX9_level_102 ?_
            refine x_iload dX9_level_103 rfl ?_
            refine x_iload dX9_level_105 rfl ?_
            refine x_isub dX9_level_107 ?_
            refine xiS2 dX9_level_108 s_X9_238 (Nat.le_of_ble_eq_true rfl) (c_more _ _) ?_
            rw [ap_eq (by omega) (by omega), show apN (hvN (wM W) (k + 1) (wN W)) (hvN (wM W) (t &&& nt (k + 1)) (wN W)) = lvA (wM W) (wN W) t (k + 1) from rfl]
            refine xsi9 dX9_level_111 (by decide) rfl ?_
            have upd : lvS (wM W) (wN W) t p (k + 1) = (k + 1, some (lvA (wM W) (wN W) t (k + 1))) → ∀ x7 x8, xRun G m_X9_level (d + 3) 0 0 129 [some (.ref T0), some (.int (nI t)), some (.int x), some (.int (nI p.1)), some (.int (oN p.2)), some (.int (nI (lowN t))), some (.int (nI (k + 1))), x7, x8, some (.int (nI (lvA (wM W) (wN W) t (k + 1))))] [] (tw T0 h (seti s 0 0)) (tQ T0 h (0, if x = 1 then nI (lvF (wM W) (wN W) t t).1 else nI ((lvF (wM W) (wN W) t t).2.getD 0), W)) := by
              intro hq x7 x8
              have e9 : xnl x8 = true → True := fun _ => trivial
              have kk := nx _ x7 x8 (some (.int (nI (lvA (wM W) (wN W) t (k + 1))))) hq
              refine x_iload dX9_level_129 rfl ?_
              refine xsi3 dX9_level_131 (by decide) rfl ?_
              refine x_iload dX9_level_132 rfl ?_
              refine xsi4 dX9_level_134 (by decide) rfl ?_
              exact kk
            cases hp2 : p.2 with
            | none =>
              rw [hp2] at upd
              refine x_iload dX9_level_113 rfl ?_
              refine x_iconst dX9_level_115 (-1) rfl ?_
              refine x_icmp_eq 129 dX9_level_116 rfl (fun _ => ?_) (fun hc9 => absurd (rfl) hc9)
              exact upd (by unfold lvS; rw [if_neg cc, hp2]) _ _
            | some l =>
              have hl := hbk.2 l hp2
              rw [hp2] at upd
              refine x_iload dX9_level_113 rfl ?_
              refine x_iconst dX9_level_115 (-1) rfl ?_
              refine x_icmp_eq 129 dX9_level_116 rfl (fun hc9 => absurd hc9 (oN_ne (by omega))) (fun _ => ?_)
              refine x_iload dX9_level_119 rfl ?_
              refine x_iload dX9_level_121 rfl ?_
              refine x_icmp_lt 129 dX9_level_123 rfl (fun c11 => ?_) (fun c11 => ?_)
              · have c12 : ¬ l ≤ lvA (wM W) (wN W) t (k + 1) := by
                  have := (nI_ltI (by omega) (by omega)).mp c11
                  omega
                exact upd (by unfold lvS; rw [if_neg cc, hp2]; exact if_neg c12) _ _
              · have c12 : l ≤ lvA (wM W) (wN W) t (k + 1) := Nat.le_of_not_lt (fun z => c11 ((nI_ltI (by omega) (by omega)).mpr z))
                refine x_goto 136 dX9_level_126 rfl ?_
                have kk := nx p (some (.int (nI (hvN (wM W) (k + 1) (wN W))))) (some (.int (nI (hvN (wM W) (t &&& nt (k + 1)) (wN W))))) (some (.int (nI (lvA (wM W) (wN W) t (k + 1))))) (by unfold lvS; rw [if_neg cc, hp2]; exact if_pos c12)
                rw [hp2] at kk
                exact kk
          · have c10 : (k + 1) &&& lowN t = 0 := (nI_eq (by omega) (b := 0) (by decide)).mp c9
            refine x_goto 136 dX9_level_75 rfl ?_
            exact nx p _ _ _ (by unfold lvS; rw [if_pos (Or.inr c10)])
      · intro x7 x8 x9
        have hbk := lvF_b (M := wM W) (n := wN W) (th := t) hB.2.1 h8 t
        generalize lvF (wM W) (wN W) t t = p at hbk
        refine x_iload dX9_level_52 rfl ?_
        refine x_iload_n dX9_level_54 rfl ?_
        refine x_icmp_gt 142 dX9_level_55 rfl (fun _ => ?_) (fun hc9 => absurd (nI_lt (by omega) (by omega)) hc9)
        refine x_iload_n dX9_level_142 rfl ?_
        refine x_iconst dX9_level_143 1 rfl ?_
        refine x_icmp_ne 151 dX9_level_144 rfl (fun c7 => ?_) (fun c7 => ?_)
        · refine x_iconst dX9_level_151 0 rfl ?_
          refine x_iload dX9_level_152 rfl ?_
          refine xiS2 dX9_level_154 s_X9_238 (Nat.le_of_ble_eq_true rfl) (c_more _ _) ?_
          refine x_ireturn dX9_level_157 rfl (tQ.mk (show _ = (if x = 1 then _ else _) by
            rw [if_neg c7]
            cases hp2 : p.2 with
            | none => rfl
            | some l =>
              have hl := hbk.2 l hp2
              show mx 0 (nI l) = nI l
              unfold mx
              rw [if_neg (nI_pos (by omega))]) hI0 rfl)
        · refine x_iload_n dX9_level_147 rfl ?_
          refine x_goto 157 dX9_level_148 rfl ?_
          exact x_ireturn dX9_level_157 rfl (tQ.mk (show _ = (if x = 1 then _ else _) by rw [if_pos c7]) hI0 rfl)
    · exact no2 (fun z => of_decide_eq_false (b2_eq.mp c5) z.2)
def fB (B : Nat → Option Nat) : List Int32 := (List.range 481).map (fun j => oN (B j))
theorem fB_len {B : Nat → Option Nat} : (fB B).length = 481 := by unfold fB; rw [List.length_map, List.length_range]
theorem fB_get {B : Nat → Option Nat} {n : Nat} (h : n < 481) : (fB B).getD n 0 = oN (B n) := by
  unfold fB
  rw [List.getD_eq_getElem?_getD, List.getElem?_map, List.getElem?_range h]
  rfl
theorem fB_set {B : Nat → Option Nat} {n u : Nat} (h : n < 481) : (fB B).set n (nI u) = fB (fun j => if j = n then some u else B j) := by
  refine getD_ext (by rw [List.length_set, fB_len, fB_len]) (fun i hi => ?_)
  rw [List.length_set, fB_len] at hi
  rw [getD_set (by rw [fB_len]; exact h), fB_get hi, fB_get hi]
  by_cases e : i = n
  · rw [if_pos e, if_pos e]; rfl
  · rw [if_neg e, if_neg e]
def bB (B : Nat → Option Nat) : Prop := ∀ j v, B j = some v → v < 256
theorem byS_B {B : Nat → Option Nat} {q : Nat × Nat × Nat} (h : bB B) (hq : q.1 < 256) : bB (byS B q) := by
  intro j v hv
  unfold byS at hv
  split at hv
  · by_cases e : j = q.2.1 - q.2.2
    · simp only [e, if_true] at hv
      cases hv
      exact hq
    · simp only [e, if_false] at hv
      exact h j v hv
  · exact h j v hv
theorem ly_u {M : Mk} {th : Nat} : ∀ (k a u l r : Nat), u < 2 ^ a → ∀ q ∈ ly M th k a u l r, q.1 < 2 ^ (a + k)
  | 0, a, u, l, r, hu, q, hq => by rw [List.mem_singleton.mp hq]; exact hu
  | k + 1, a, u, l, r, hu, q, hq => by
    have h1 : u < 2 ^ (a + 1) := Nat.lt_of_lt_of_le hu (Nat.pow_le_pow_right (by decide) (by omega))
    have h2 : u ||| 2 ^ a < 2 ^ (a + 1) := Nat.or_lt_two_pow h1 (Nat.pow_lt_pow_right (by decide) (by omega))
    rw [show a + (k + 1) = a + 1 + k by omega]
    unfold ly at hq
    rcases List.mem_append.mp hq with z | z
    · exact ly_u k (a + 1) u l r h1 q z
    · split at z
      · rcases List.mem_append.mp z with z | z
        · exact ly_u k (a + 1) _ _ _ h2 q z
        · exact ly_u k (a + 1) _ _ _ h2 q z
      · cases z
theorem byF_B {L : List (Nat × Nat × Nat)} : ∀ {B : Nat → Option Nat}, bB B → (∀ q ∈ L, q.1 < 256) → bB (byF B L) := by
  induction L with
  | nil => intro B h _; exact h
  | cons q L ih => intro B h hq; exact ih (byS_B h (hq q List.mem_cons_self)) (fun x hx => hq x (List.mem_cons_of_mem _ hx))
theorem byF_app {B : Nat → Option Nat} {L K : List (Nat × Nat × Nat)} : byF B (L ++ K) = byF (byF B L) K := List.foldl_append
theorem c_laysFrom (hI : tIn s W) (hW : wOK W) (hb : G.2.2.1 ≤ T0) (th : Nat) (ht : th < 256) : ∀ (k a u l r : Nat) (B : Nat → Option Nat), a + k = wN W → u < 2 ^ a → bB B → l ≤ 60 * a → r ≤ 60 * a →
    xMet G (d + (k + 1)) 0 0 m_X9_laysFrom [.ref T0, .int (nI a), .int (nI th), .int (nI u), .int (nI l - nI r)] (tw T0 h (seta s 473 (fB B))) (xU (tw T0 h (seta s 473 (fB (byF B (ly (wM W) th k a u l r)))))) := by
  intro k
  have hB := hW.2.2.2.2.2.1
  have h8 := hW.2.2.1
  have j448 : tRow 448 := Or.inl rfl
  have hin : ∀ B, tIn (seta s 473 (fB B)) W := fun B => hI.J hW ((tJ.refl hI.1).seta rfl fB_len)
  induction k with
  | zero =>
    intro a u l r B hak hu hbB hl hr
    refine xMet.of [some (.ref T0), some (.int (nI a)), some (.int (nI th)), some (.int (nI u)), some (.int (nI l - nI r))] pl_X9 rfl (Nat.le_of_ble_eq_true rfl) ?_
    have ea : a = wN W := by omega
    have hu256 : u < 256 := Nat.lt_of_lt_of_le hu (Nat.le_trans (Nat.pow_le_pow_right (by decide) (by omega : a ≤ 8)) (by decide))
    show xRun _ _ _ _ _ _ _ _ _ (xU (tw T0 h (seta s 473 (fB (byS B (u, l, r))))))
    refine x_iload_n dX9_laysFrom_0 rfl ?_
    refine x_aload_n dX9_laysFrom_1 rfl ?_
    refine t_ga 4 dX9_laysFrom_2 f_X9_23_27 (by decide) rfl (by decide) ?_
    refine x_iconst dX9_laysFrom_5 0 rfl ?_
    refine t_ia 0 dX9_laysFrom_6 (hin B).1 (by decide) rfl (by decide) (hin B).2.2.2.1.1 ?_
    refine x_icmp_ne 80 dX9_laysFrom_7 rfl (fun hc9 => absurd (by rw [ea]) hc9) (fun _ => ?_)
    by_cases hlr : r < l
    · have e1 : nI l - nI r = nI (l - r) := pk_sub (by omega)
      rw [e1]
      have h481 : l - r < 481 := by omega
      have hget : ((seta s 473 (fB B)).2.2 473).getD (l - r) 0 = oN (B (l - r)) := gt seta_get (fB_get h481)
      have put : btr u (B (l - r)) = true → xRun G m_X9_laysFrom (d + (0 + 1)) 0 0 71 [some (.ref T0), some (.int (nI a)), some (.int (nI th)), some (.int (nI u)), some (.int (nI (l - r)))] [] (tw T0 h (seta s 473 (fB B))) (xU (tw T0 h (seta s 473 (fB (byS B (u, l, r)))))) := by
        intro hbt
        refine x_aload_n dX9_laysFrom_71 rfl ?_
        refine t_ga 473 dX9_laysFrom_72 f_X9_80_27 (by decide) rfl (by decide) ?_
        refine x_iload dX9_laysFrom_75 rfl ?_
        refine x_iload_n dX9_laysFrom_77 rfl ?_
        refine t_is (l - r) dX9_laysFrom_78 (hin B).1 (by decide) rfl (show _ < 481 from h481) hb ?_
        rw [seta_get, seta_seta, fB_set h481]
        refine x_return dX9_laysFrom_79 rfl ⟨rfl, ?_⟩
        rw [byS, if_pos ⟨hlr, hbt⟩]
      have skip : btr u (B (l - r)) = false → xRun G m_X9_laysFrom (d + (0 + 1)) 0 0 79 [some (.ref T0), some (.int (nI a)), some (.int (nI th)), some (.int (nI u)), some (.int (nI (l - r)))] [] (tw T0 h (seta s 473 (fB B))) (xU (tw T0 h (seta s 473 (fB (byS B (u, l, r)))))) := by
        intro hbt
        refine x_return dX9_laysFrom_79 rfl ⟨rfl, ?_⟩
        rw [byS, if_neg (fun z => by rw [z.2] at hbt; cases hbt)]
      refine x_iload dX9_laysFrom_10 rfl ?_
      refine x_if_le 79 dX9_laysFrom_12 rfl (fun hc9 => absurd hc9 (nI_nle (by omega) (by omega))) (fun _ => ?_)
      refine x_aload_n dX9_laysFrom_15 rfl ?_
      refine t_ga 473 dX9_laysFrom_16 f_X9_80_27 (by decide) rfl (by decide) ?_
      refine x_iload dX9_laysFrom_19 rfl ?_
      refine t_ia (l - r) dX9_laysFrom_21 (hin B).1 (by decide) rfl (show _ < 481 from h481) hget ?_
      cases hBv : B (l - r) with
      | none =>
        rw [hBv] at put
        refine x_iconst dX9_laysFrom_22 (-1) rfl ?_
        refine x_icmp_eq 71 dX9_laysFrom_23 rfl (fun _ => ?_) (fun hc9 => absurd (rfl) hc9)
        exact put rfl
      | some v =>
        have hv256 := hbB _ _ hBv
        rw [hBv] at put skip
        have hget2 : ((seta s 473 (fB B)).2.2 473).getD (l - r) 0 = nI v := by rw [hget, hBv]; rfl
        have o1 := on_pc u (by omega)
        have o2 := on_pc v (by omega)
        have p1 := pc_le10 u
        have p2 := pc_le10 v
        refine x_iconst dX9_laysFrom_22 (-1) rfl ?_
        refine x_icmp_eq 71 dX9_laysFrom_23 rfl (fun hc9 => absurd hc9 (oN_ne (by omega))) (fun _ => ?_)
        refine x_iload_n dX9_laysFrom_26 rfl ?_
        refine xiS1 dX9_laysFrom_27 s_X9_260 (Nat.le_of_ble_eq_true rfl) (c_ones _) ?_
        refine x_aload_n dX9_laysFrom_30 rfl ?_
        refine t_ga 473 dX9_laysFrom_31 f_X9_80_27 (by decide) rfl (by decide) ?_
        refine x_iload dX9_laysFrom_34 rfl ?_
        refine t_ia (l - r) dX9_laysFrom_36 (hin B).1 (by decide) rfl (show _ < 481 from h481) hget2 ?_
        refine x_at 37 rfl ?_
        refine xiS1 dX9_laysFrom_37 s_X9_260 (Nat.le_of_ble_eq_true rfl) (c_ones _) ?_
        rw [o1, o2]
        refine x_icmp_lt 71 dX9_laysFrom_40 rfl (fun c1 => ?_) (fun c1 => ?_)
        · have c2 := (nI_ltI (by omega) (by omega)).mp c1
          exact put (decide_eq_true (Or.inl c2))
        · have c2 : ¬ pc u < pc v := fun z => c1 ((nI_ltI (by omega) (by omega)).mpr z)
          refine x_iload_n dX9_laysFrom_43 rfl ?_
          refine xiS1 dX9_laysFrom_44 s_X9_260 (Nat.le_of_ble_eq_true rfl) (c_ones _) ?_
          refine x_aload_n dX9_laysFrom_47 rfl ?_
          refine t_ga 473 dX9_laysFrom_48 f_X9_80_27 (by decide) rfl (by decide) ?_
          refine x_iload dX9_laysFrom_51 rfl ?_
          refine t_ia (l - r) dX9_laysFrom_53 (hin B).1 (by decide) rfl (show _ < 481 from h481) hget2 ?_
          refine xiS1 dX9_laysFrom_54 s_X9_260 (Nat.le_of_ble_eq_true rfl) (c_ones _) ?_
          rw [o1, o2]
          refine x_icmp_ne 79 dX9_laysFrom_57 rfl (fun c3 => ?_) (fun c3 => ?_)
          · have c4 : ¬ pc u = pc v := fun z => c3 (by rw [z])
            exact skip (decide_eq_false (fun z => z.elim c2 (fun y => c4 y.1)))
          · have c4 : pc u = pc v := (nI_eq (by omega) (by omega)).mp c3
            refine x_iload_n dX9_laysFrom_60 rfl ?_
            refine x_aload_n dX9_laysFrom_61 rfl ?_
            refine t_ga 473 dX9_laysFrom_62 f_X9_80_27 (by decide) rfl (by decide) ?_
            refine x_iload dX9_laysFrom_65 rfl ?_
            refine t_ia (l - r) dX9_laysFrom_67 (hin B).1 (by decide) rfl (show _ < 481 from h481) hget2 ?_
            refine x_icmp_ge 79 dX9_laysFrom_68 rfl (fun c5 => ?_) (fun c5 => ?_)
            · have c6 : ¬ u < v := by
                have := (nI_leI (by omega) (by omega)).mp c5
                omega
              exact skip (decide_eq_false (fun z => z.elim c2 (fun y => c6 y.2)))
            · have c6 : u < v := Nat.lt_of_not_le (fun z => c5 ((nI_leI (by omega) (by omega)).mpr z))
              exact put (decide_eq_true (Or.inr ⟨c4, c6⟩))
    · have e1 : nI l - nI r ≤ 0 := by
        by_cases e : l = r
        · rw [e, pk_sub (Nat.le_refl _), Nat.sub_self]; decide
        · exact Int32.le_of_lt (pk_sneg (by omega) (by omega))
      refine x_iload dX9_laysFrom_10 rfl ?_
      refine x_if_le 79 dX9_laysFrom_12 rfl (fun _ => ?_) (fun hc9 => absurd (e1) hc9)
      refine x_return dX9_laysFrom_79 rfl ⟨rfl, ?_⟩
      rw [byS, if_neg (fun z => hlr z.1)]
  | succ k ih =>
    intro a u l r B hak hu hbB hl hr
    refine xMet.of [some (.ref T0), some (.int (nI a)), some (.int (nI th)), some (.int (nI u)), some (.int (nI l - nI r))] pl_X9 rfl (Nat.le_of_ble_eq_true rfl) ?_
    have a8 : a < 8 := by omega
    have h1 : u < 2 ^ (a + 1) := Nat.lt_of_lt_of_le hu (Nat.pow_le_pow_right (by decide) (by omega))
    have h2 : u ||| 2 ^ a < 2 ^ (a + 1) := Nat.or_lt_two_pow h1 (Nat.pow_lt_pow_right (by decide) (by omega))
    have hw := hB.2.1 a
    have p8 : 2 ^ wN W ≤ 2 ^ 8 := Nat.pow_le_pow_right (by decide) h8
    have bnd : ∀ (u l r : Nat), u < 2 ^ (a + 1) → ∀ q ∈ ly (wM W) th k (a + 1) u l r, q.1 < 256 := by
      intro u l r hu q hq
      have := ly_u k (a + 1) u l r hu q hq
      rw [show a + 1 + k = wN W by omega] at this
      omega
    generalize hB1 : byF B (ly (wM W) th k (a + 1) u l r) = B1
    have bB1 : bB B1 := by rw [← hB1]; exact byF_B hbB (bnd _ _ _ h1)
    have k1 := ih (a + 1) u l r B (by omega) h1 hbB (by omega) (by omega)
    rw [hB1] at k1
    refine x_iload_n dX9_laysFrom_0 rfl ?_
    refine x_aload_n dX9_laysFrom_1 rfl ?_
    refine t_ga 4 dX9_laysFrom_2 f_X9_23_27 (by decide) rfl (by decide) ?_
    refine x_iconst dX9_laysFrom_5 0 rfl ?_
    refine t_ia 0 dX9_laysFrom_6 (hin B).1 (by decide) rfl (by decide) (hin B).2.2.2.1.1 ?_
    refine x_icmp_ne 80 dX9_laysFrom_7 rfl (fun _ => ?_) (fun hc9 => absurd hc9 (fun z => absurd ((nI_eq (by omega) (by omega)).mp z) (by omega)))
    refine x_aload_n dX9_laysFrom_80 rfl ?_
    refine x_iload_n dX9_laysFrom_81 rfl ?_
    refine x_at 82 rfl ?_
    refine x_iconst dX9_laysFrom_82 1 rfl ?_
    refine x_iadd dX9_laysFrom_83 ?_
    rw [nI_1]
    refine x_iload_n dX9_laysFrom_84 rfl ?_
    refine x_iload_n dX9_laysFrom_85 rfl ?_
    refine x_iload dX9_laysFrom_86 rfl ?_
    refine xuV4 dX9_laysFrom_88 v_X9_372_27 tw_get0 (Nat.le_of_ble_eq_true rfl) (k1) ?_
    refine x_iload_n dX9_laysFrom_91 rfl ?_
    refine x_iload_n dX9_laysFrom_92 rfl ?_
    refine xiS2 dX9_laysFrom_93 s_X9_345 (Nat.le_of_ble_eq_true rfl) (c_has _ _) ?_
    refine x_if_ne 100 dX9_laysFrom_96 rfl (fun c1 => ?_) (fun c1 => ?_)
    · have c2 := b2_ne.mp c1
      rw [bt_nI (by omega)] at c2
      have e5 : nI u ||| (1 : Int32) <<< (nI a &&& 31) = nI (u ||| 2 ^ a) := by
        rw [show (1 : Int32) <<< (nI a &&& 31) = sh1 a from rfl, sh1_nI a (by omega), nI_or, Nat.one_shiftLeft]
      generalize hB2 : byF B1 (ly (wM W) th k (a + 1) (u ||| 2 ^ a) (l + (wM W).1.getD a 0) r) = B2
      have bB2 : bB B2 := by rw [← hB2]; exact byF_B bB1 (bnd _ _ _ h2)
      have k2 := ih (a + 1) (u ||| 2 ^ a) (l + (wM W).1.getD a 0) r B1 (by omega) h2 bB1 (by omega) (by omega)
      have k3 := ih (a + 1) (u ||| 2 ^ a) l (r + (wM W).1.getD a 0) B2 (by omega) h2 bB2 (by omega) (by omega)
      rw [hB2] at k2
      have e6 : nI l - nI r + nI ((wM W).1.getD a 0) = nI (l + (wM W).1.getD a 0) - nI r := by
        rw [← nI_add]
        apply Int32.toBitVec_inj.mp
        show (nI l).toBitVec - (nI r).toBitVec + (nI ((wM W).1.getD a 0)).toBitVec = (nI l).toBitVec + (nI ((wM W).1.getD a 0)).toBitVec - (nI r).toBitVec
        rw [BitVec.sub_eq_add_neg, BitVec.sub_eq_add_neg, BitVec.add_assoc, BitVec.add_comm (-_), ← BitVec.add_assoc]
      have e7 : nI l - nI r - nI ((wM W).1.getD a 0) = nI l - nI (r + (wM W).1.getD a 0) := by
        rw [← nI_add]
        apply Int32.toBitVec_inj.mp
        show (nI l).toBitVec - (nI r).toBitVec - (nI ((wM W).1.getD a 0)).toBitVec = (nI l).toBitVec - ((nI r).toBitVec + (nI ((wM W).1.getD a 0)).toBitVec)
        rw [BitVec.sub_eq_add_neg, BitVec.sub_eq_add_neg, BitVec.sub_eq_add_neg, BitVec.neg_add, BitVec.sub_eq_add_neg, BitVec.add_assoc]
      refine x_aload_n dX9_laysFrom_100 rfl ?_
      refine x_iload_n dX9_laysFrom_101 rfl ?_
      refine x_iconst dX9_laysFrom_102 1 rfl ?_
      refine x_iadd dX9_laysFrom_103 ?_
      rw [nI_1]
      refine x_iload_n dX9_laysFrom_104 rfl ?_
      refine x_iload_n dX9_laysFrom_105 rfl ?_
      refine x_iconst dX9_laysFrom_106 1 rfl ?_
      refine x_iload_n dX9_laysFrom_107 rfl ?_
      refine x_ishl dX9_laysFrom_108 ?_
      refine x_ior dX9_laysFrom_109 ?_
      rw [e5]
      refine x_iload dX9_laysFrom_110 rfl ?_
      refine x_aload_n dX9_laysFrom_112 rfl ?_
      refine t_ga 448 dX9_laysFrom_113 f_X9_61_27 (by decide) rfl (by decide) ?_
      refine x_iconst dX9_laysFrom_116 0 rfl ?_
      refine x_iload_n dX9_laysFrom_117 rfl ?_
      refine x_iadd dX9_laysFrom_118 ?_
      refine t_rj a dX9_laysFrom_119 (hin B1).1 j448 (hin B1).2.2.2.2.2.1 (ix_w _) (by omega) (mrow_w hB.1 a8) ?_
      refine x_iadd dX9_laysFrom_120 ?_
      rw [e6]
      refine xuV4 dX9_laysFrom_121 v_X9_372_27 tw_get0 (Nat.le_of_ble_eq_true rfl) (k2) ?_
      refine x_aload_n dX9_laysFrom_124 rfl ?_
      refine x_iload_n dX9_laysFrom_125 rfl ?_
      refine x_iconst dX9_laysFrom_126 1 rfl ?_
      refine x_iadd dX9_laysFrom_127 ?_
      rw [nI_1]
      refine x_iload_n dX9_laysFrom_128 rfl ?_
      refine x_iload_n dX9_laysFrom_129 rfl ?_
      refine x_iconst dX9_laysFrom_130 1 rfl ?_
      refine x_iload_n dX9_laysFrom_131 rfl ?_
      refine x_ishl dX9_laysFrom_132 ?_
      refine x_ior dX9_laysFrom_133 ?_
      rw [e5]
      refine x_iload dX9_laysFrom_134 rfl ?_
      refine x_aload_n dX9_laysFrom_136 rfl ?_
      refine t_ga 448 dX9_laysFrom_137 f_X9_61_27 (by decide) rfl (by decide) ?_
      refine x_iconst dX9_laysFrom_140 0 rfl ?_
      refine x_iload_n dX9_laysFrom_141 rfl ?_
      refine x_iadd dX9_laysFrom_142 ?_
      refine t_rj a dX9_laysFrom_143 (hin B2).1 j448 (hin B2).2.2.2.2.2.1 (ix_w _) (by omega) (mrow_w hB.1 a8) ?_
      refine x_isub dX9_laysFrom_144 ?_
      rw [e7]
      refine xuV4 dX9_laysFrom_145 v_X9_372_27 tw_get0 (Nat.le_of_ble_eq_true rfl) (k3) ?_
      refine x_return dX9_laysFrom_148 rfl ⟨rfl, ?_⟩
      rw [show ly (wM W) th (k + 1) a u l r = ly (wM W) th k (a + 1) u l r ++ (if th.testBit a = true then ly (wM W) th k (a + 1) (u ||| 2 ^ a) (l + (wM W).1.getD a 0) r ++ ly (wM W) th k (a + 1) (u ||| 2 ^ a) l (r + (wM W).1.getD a 0) else []) from rfl, if_pos c2, byF_app, byF_app, hB1, hB2]
    · have c2 := b2_eq.mp c1
      rw [bt_nI (by omega)] at c2
      refine x_return dX9_laysFrom_99 rfl ⟨rfl, ?_⟩
      rw [show ly (wM W) th (k + 1) a u l r = ly (wM W) th k (a + 1) u l r ++ (if th.testBit a = true then ly (wM W) th k (a + 1) (u ||| 2 ^ a) (l + (wM W).1.getD a 0) r ++ ly (wM W) th k (a + 1) (u ||| 2 ^ a) l (r + (wM W).1.getD a 0) else []) from rfl, if_neg (by rw [c2]; decide), List.append_nil, hB1]
theorem c_laysAmounts (hI : tIn s W) (hW : wOK W) (hb : G.2.2.1 ≤ T0) (th : Nat) (ht : th < 256) : xMet G (d + 10) 0 0 m_X9_laysAmounts [.ref T0, .int (nI th)] (tw T0 h s) (xU (tw T0 h (seta s 473 (fB (byA (wM W) (wN W) th))))) := by
  refine xMet.of [some (.ref T0), some (.int (nI th)), none] pl_X9 rfl (Nat.le_of_ble_eq_true rfl) ?_
  have h8 := hW.2.2.1
  refine x_iconst dX9_laysAmounts_0 0 rfl ?_
  refine xsi2 dX9_laysAmounts_1 (by decide) rfl ?_
  suffices hh : ∀ r : List Int32, r.length = 481 → (∀ i, i < 0 → r.getD i 0 = -1) → xRun G m_X9_laysAmounts (d + 10) 0 0 2 [some (.ref T0), some (.int (nI th)), some (.int (nI 0))] [] (tw T0 h (seta s 473 r)) (xU (tw T0 h (seta s 473 (fB (byA (wM W) (wN W) th))))) by
    have := hh (s.2.2 473) (hI.1 473) (fun i hi => absurd hi (Nat.not_lt_zero _))
    rw [seta_id rfl] at this
    exact this
  refine xfor (fun c => ∀ r : List Int32, r.length = 481 → (∀ i, i < c → r.getD i 0 = -1) → xRun G m_X9_laysAmounts (d + 10) 0 0 2 [some (.ref T0), some (.int (nI th)), some (.int (nI c))] [] (tw T0 h (seta s 473 r)) (xU (tw T0 h (seta s 473 (fB (byA (wM W) (wN W) th)))))) 481 ?_ ?_
  · intro c hc ih r hl hr
    refine x_iload_n dX9_laysAmounts_2 rfl ?_
    refine x_sipush dX9_laysAmounts_3 480 (by decide) ?_
    refine x_icmp_gt 22 dX9_laysAmounts_6 rfl (fun hc9 => absurd hc9 (nI_nlt (a := 480) (by omega) (by decide))) (fun _ => ?_)
    refine x_aload_n dX9_laysAmounts_9 rfl ?_
    refine t_ga 473 dX9_laysAmounts_10 f_X9_80_27 (by decide) rfl (by decide) ?_
    refine x_iload_n dX9_laysAmounts_13 rfl ?_
    refine x_iconst dX9_laysAmounts_14 (-1) rfl ?_
    refine t_is c dX9_laysAmounts_15 (seta_ok hI.1 hl) (by decide) rfl hc hb ?_
    rw [seta_get, seta_seta]
    refine xinc2 _ dX9_laysAmounts_16 (by decide) rfl (nI_1 c) ?_
    refine x_goto 2 dX9_laysAmounts_19 rfl ?_
    refine ih _ (by rw [List.length_set]; exact hl) (fun i hi => ?_)
    rw [getD_set (by omega)]
    by_cases e : i = c
    · rw [if_pos e]
    · rw [if_neg e]; exact hr i (by omega)
  · intro r hl hr
    have er : r = fB (fun _ => none) := getD_ext (by rw [hl, fB_len]) (fun i hi => by rw [hr i (by omega), fB_get (by omega)]; rfl)
    subst er
    have key := c_laysFrom (G := G) (d := d + (8 - wN W)) (h := h) hI hW hb th ht (wN W) 0 0 0 0 (fun _ => none) (by omega) (by decide) (fun _ _ z => nomatch z) (by decide) (by decide)
    rw [show d + (8 - wN W) + (wN W + 1) = d + 9 by omega] at key
    refine x_iload_n dX9_laysAmounts_2 rfl ?_
    refine x_sipush dX9_laysAmounts_3 480 (by decide) ?_
    refine x_icmp_gt 22 dX9_laysAmounts_6 rfl (fun _ => ?_) (fun hc9 => absurd (nI_lt (a := 480) (by decide) (by decide)) hc9)
    refine x_aload_n dX9_laysAmounts_22 rfl ?_
    refine x_iconst dX9_laysAmounts_23 0 rfl ?_
    refine x_iload_n dX9_laysAmounts_24 rfl ?_
    refine x_iconst dX9_laysAmounts_25 0 rfl ?_
    refine x_iconst dX9_laysAmounts_26 0 rfl ?_
    refine xuV4 dX9_laysAmounts_27 v_X9_372_27 tw_get0 (Nat.le_of_ble_eq_true rfl) key ?_
    exact x_return dX9_laysAmounts_30 rfl ⟨rfl, rfl⟩
theorem mtM_le {B : Nat → Option Nat} : ∀ k, mtM B k ≤ k
  | 0 => Nat.le_refl _
  | k + 1 => by
    have := mtM_le (B := B) k
    unfold mtM
    split <;> omega
theorem byA_B {M : Mk} {n th : Nat} (hn : n ≤ 8) : bB (byA M n th) := by
  refine byF_B (fun _ _ z => nomatch z) (fun q hq => ?_)
  have := ly_u n 0 0 0 0 (by decide) q hq
  have p8 : 2 ^ (0 + n) ≤ 2 ^ 8 := Nat.pow_le_pow_right (by decide) (by omega)
  omega
theorem oN_none {B : Nat → Option Nat} {j : Nat} (hB : bB B) : oN (B j) = -1 ↔ B j = none := by
  cases hj : B j with
  | none => exact ⟨fun _ => rfl, fun _ => rfl⟩
  | some v => exact ⟨fun z => absurd z (oN_ne (by have := hB j v hj; omega)), fun z => by cases z⟩
theorem p_match (hI : tIn s W) (hW : wOK W) (hb : G.2.2.1 ≤ T0) (th x : Int32) : xMet G (d + 11) 0 0 m_X9_match [.ref T0, .int th, .int x] (tw T0 h s) (tQ T0 h (oMatch W th x)) := by
  refine xMet.of [some (.ref T0), some (.int th), some (.int x), none, none, none] pl_X9 rfl (Nat.le_of_ble_eq_true rfl) ?_
  have hI0 := hI.J hW ((tJ.refl hI.1).seti (k := 0) (v := 0) rfl)
  have h8 := hW.2.2.1
  have no2 : ¬ (isS W th ∧ 0 ≤ x ∧ x ≤ 1) → xRun G m_X9_match (d + 11) 0 0 23 [some (.ref T0), some (.int th), some (.int x), none, none, none] [.ref T0] (tw T0 h (seti s 0 0)) (tQ T0 h (oMatch W th x)) := by
    intro z
    rw [oMatch, if_neg z]
    refine x_iconst dX9_match_23 1 rfl ?_
    refine x_goto 28 dX9_match_24 rfl ?_
    refine x_iconst dX9_match_28 1 rfl ?_
    refine x_iconst dX9_match_29 1 rfl ?_
    refine xiV3 dX9_match_30 v_X9_171_27 tw_get0 (Nat.le_of_ble_eq_true rfl) (c_badT hI0.1 hb rfl _ (by decide) 1 (by decide)) ?_
    refine x_if_eq 38 dX9_match_33 rfl (fun hc9 => absurd hc9 (by decide)) (fun _ => ?_)
    refine x_iconst dX9_match_36 0 rfl ?_
    exact x_ireturn dX9_match_37 rfl (tQ.mk rfl (hI0.ref (by decide)) rfl)
  refine x_aload_n dX9_match_0 rfl ?_
  refine x_iconst dX9_match_1 0 rfl ?_
  refine t_pi dX9_match_2 p_X9_92_27 rfl (by decide) hb ?_
  refine x_aload_n dX9_match_5 rfl ?_
  refine x_aload_n dX9_match_6 rfl ?_
  refine x_iload_n dX9_match_7 rfl ?_
  refine xiV1 dX9_match_8 v_X9_379_27 tw_get0 (Nat.le_of_ble_eq_true rfl) (c_isSet hI0 hW _) ?_
  refine x_if_eq 23 dX9_match_11 rfl (fun c3 => ?_) (fun c3 => ?_)
  · exact no2 (fun z => of_decide_eq_false (b2_eq.mp c3) z.1)
  · have c4 := of_decide_eq_true (b2_ne.mp c3)
    refine x_iload_n dX9_match_14 rfl ?_
    refine x_iconst dX9_match_15 0 rfl ?_
    refine x_iconst dX9_match_16 1 rfl ?_
    refine xiS3 dX9_match_17 s_X9_126 (Nat.le_of_ble_eq_true rfl) (c_in _ _ _) ?_
    refine x_if_ne 27 dX9_match_20 rfl (fun c5 => ?_) (fun c5 => ?_)
    · have c6 := of_decide_eq_true (b2_ne.mp c5)
      rw [oMatch, if_pos ⟨c4, c6⟩]
      obtain ⟨t, ht, t256, rfl, et⟩ := isS_ix hW c4
      rw [et]
      have hbB := byA_B (M := wM W) (th := t) h8
      have k1 := c_laysAmounts (G := G) (d := d) (h := h) hI0 hW hb t t256
      generalize byA (wM W) (wN W) t = B at hbB k1
      have hI1 : tIn (seta (seti s 0 0) 473 (fB B)) W := hI0.J hW ((tJ.refl hI0.1).seta rfl fB_len)
      refine x_iconst dX9_match_27 0 rfl ?_
      refine x_iconst dX9_match_28 1 rfl ?_
      refine x_iconst dX9_match_29 1 rfl ?_
      refine xiV3 dX9_match_30 v_X9_171_27 tw_get0 (Nat.le_of_ble_eq_true rfl) (c_badF hI0.1 hb rfl _ 1 (by decide)) ?_
      refine x_if_eq 38 dX9_match_33 rfl (fun _ => ?_) (fun hc9 => absurd (rfl) hc9)
      refine x_aload_n dX9_match_38 rfl ?_
      refine x_iload_n dX9_match_39 rfl ?_
      refine xuV1 dX9_match_40 v_X9_382_27 tw_get0 (Nat.le_of_ble_eq_true rfl) (k1) ?_
      refine x_at 43 rfl ?_
      refine x_iconst dX9_match_43 0 rfl ?_
      refine xsi3 dX9_match_44 (by decide) rfl ?_
      refine x_iconst dX9_match_45 1 rfl ?_
      refine xsi4 dX9_match_46 (by decide) rfl ?_
      refine x_iconst dX9_match_48 1 rfl ?_
      refine xsi5 dX9_match_49 (by decide) rfl ?_
      generalize hQ : tQ T0 h _ = Q
      have part2 : ∀ x5, xRun G m_X9_match (d + 11) 0 0 84 [some (.ref T0), some (.int (nI t)), some (.int x), some (.int (nI (mtM B 480))), some (.int (nI 1)), x5] [] (tw T0 h (seta (seti s 0 0) 473 (fB B))) Q := by
        intro x5
        have fin : ∀ g, g = mtG B 480 1 → xRun G m_X9_match (d + 11) 0 0 109 [some (.ref T0), some (.int (nI t)), some (.int x), some (.int (nI (mtM B 480))), some (.int (nI g)), x5] [] (tw T0 h (seta (seti s 0 0) 473 (fB B))) Q := by
          intro g hg
          rw [← hQ, hg]
          refine x_iload_n dX9_match_109 rfl ?_
          refine x_if_ne 117 dX9_match_110 rfl (fun c7 => ?_) (fun c7 => ?_)
          · refine x_iload dX9_match_117 rfl ?_
            exact x_ireturn dX9_match_119 rfl (tQ.mk (show _ = (if x = 0 then _ else _) by rw [if_neg c7]) hI1 rfl)
          · refine x_iload_n dX9_match_113 rfl ?_
            refine x_goto 119 dX9_match_114 rfl ?_
            exact x_ireturn dX9_match_119 rfl (tQ.mk (show _ = (if x = 0 then _ else _) by rw [if_pos c7]) hI1 rfl)
        have loop : ∀ k g, g + k = 481 → mtG B k g = mtG B 480 1 → xRun G m_X9_match (d + 11) 0 0 84 [some (.ref T0), some (.int (nI t)), some (.int x), some (.int (nI (mtM B 480))), some (.int (nI g)), x5] [] (tw T0 h (seta (seti s 0 0) 473 (fB B))) Q := by
          intro k
          induction k with
          | zero =>
            intro g hg e
            have e2 : g = 481 := by omega
            subst e2
            refine x_iload dX9_match_84 rfl ?_
            refine x_sipush dX9_match_86 480 (by decide) ?_
            refine x_icmp_gt 109 dX9_match_89 rfl (fun _ => ?_) (fun hc9 => absurd (by decide) hc9)
            exact fin _ e
          | succ k ih =>
            intro g hg e
            refine x_iload dX9_match_84 rfl ?_
            refine x_sipush dX9_match_86 480 (by decide) ?_
            refine x_icmp_gt 109 dX9_match_89 rfl (fun hc9 => absurd hc9 (nI_nlt (a := 480) (by omega) (by decide))) (fun _ => ?_)
            refine x_aload_n dX9_match_92 rfl ?_
            refine t_ga 473 dX9_match_93 f_X9_80_27 (by decide) rfl (by decide) ?_
            refine x_iload dX9_match_96 rfl ?_
            refine t_ia g dX9_match_98 hI1.1 (by decide) rfl (show g < 481 by omega) (gt seta_get (fB_get (by omega))) ?_
            refine x_iconst dX9_match_99 (-1) rfl ?_
            refine x_at 100 rfl ?_
            refine x_icmp_eq 109 dX9_match_100 rfl (fun c7 => ?_) (fun c7 => ?_)
            · have c8 := (oN_none hbB).mp c7
              rw [mtG, if_pos c8] at e
              exact fin _ e
            · have c8 : ¬ B g = none := fun z => c7 ((oN_none hbB).mpr z)
              rw [mtG, if_neg c8] at e
              refine xinc4 _ dX9_match_103 (by decide) rfl (nI_1 g) ?_
              refine x_goto 84 dX9_match_106 rfl ?_
              exact ih (g + 1) (by omega) e
        exact loop 480 1 rfl rfl
      refine xfor (fun k => xRun G m_X9_match (d + 11) 0 0 51 [some (.ref T0), some (.int (nI t)), some (.int x), some (.int (nI (mtM B k))), some (.int (nI 1)), some (.int (nI (k + 1)))] [] (tw T0 h (seta (seti s 0 0) 473 (fB B))) Q) 480 ?_ ?_
      · intro k hk ih
        have nx : ∀ v, v = (if B (k + 1) = none then 0 else 1) → xRun G m_X9_match (d + 11) 0 0 76 [some (.ref T0), some (.int (nI t)), some (.int x), some (.int (nI (mtM B k))), some (.int (nI 1)), some (.int (nI (k + 1)))] [.int (nI v), .int (nI (mtM B k))] (tw T0 h (seta (seti s 0 0) 473 (fB B))) Q := by
          intro v hv
          subst hv
          refine x_iadd dX9_match_76 ?_
          rw [nI_add]
          refine xsi3 dX9_match_77 (by decide) rfl ?_
          refine xinc5 _ dX9_match_78 (by decide) rfl (nI_1 _) ?_
          refine x_goto 51 dX9_match_81 rfl ?_
          exact ih
        refine x_iload dX9_match_51 rfl ?_
        refine x_sipush dX9_match_53 480 (by decide) ?_
        refine x_icmp_gt 84 dX9_match_56 rfl (fun hc9 => absurd hc9 (nI_nlt (a := 480) (by omega) (by decide))) (fun _ => ?_)
        refine x_iload_n dX9_match_59 rfl ?_
        refine x_aload_n dX9_match_60 rfl ?_
        refine t_ga 473 dX9_match_61 f_X9_80_27 (by decide) rfl (by decide) ?_
        refine x_iload dX9_match_64 rfl ?_
        refine t_ia (k + 1) dX9_match_66 hI1.1 (by decide) rfl (show k + 1 < 481 by omega) (gt seta_get (fB_get (by omega))) ?_
        refine x_at 67 rfl ?_
        refine x_iconst dX9_match_67 (-1) rfl ?_
        refine x_icmp_ne 75 dX9_match_68 rfl (fun c7 => ?_) (fun c7 => ?_)
        · refine x_iconst dX9_match_75 1 rfl ?_
          exact nx 1 (by rw [if_neg (fun z => c7 ((oN_none hbB).mpr z))])
        · refine x_iconst dX9_match_71 0 rfl ?_
          refine x_goto 76 dX9_match_72 rfl ?_
          exact nx 0 (by rw [if_pos ((oN_none hbB).mp c7)])
      · refine x_iload dX9_match_51 rfl ?_
        refine x_sipush dX9_match_53 480 (by decide) ?_
        refine x_icmp_gt 84 dX9_match_56 rfl (fun _ => ?_) (fun hc9 => absurd (by decide) hc9)
        exact part2 _
    · exact no2 (fun z => of_decide_eq_false (b2_eq.mp c5) z.2)
theorem p_fewest (hI : tIn s W) (hW : wOK W) (hb : G.2.2.1 ≤ T0) (x : Int32) : xMet G (d + 11) 0 0 m_X9_fewest [.ref T0, .int x] (tw T0 h s) (tQ T0 h (oFewest W x)) := by
  refine xMet.of [some (.ref T0), some (.int x)] pl_X9 rfl (Nat.le_of_ble_eq_true rfl) ?_
  have hI0 := hI.J hW ((tJ.refl hI.1).seti (k := 0) (v := 0) rfl)
  have h8 := hW.2.2.1
  have p8 : 2 ^ wN W ≤ 2 ^ 8 := Nat.pow_le_pow_right (by decide) h8
  have p0 : 1 ≤ 2 ^ wN W := Nat.one_le_two_pow
  refine x_aload_n dX9_fewest_0 rfl ?_
  refine x_iconst dX9_fewest_1 0 rfl ?_
  refine t_pi dX9_fewest_2 p_X9_92_27 rfl (by decide) hb ?_
  refine x_aload_n dX9_fewest_5 rfl ?_
  refine x_iload_n dX9_fewest_6 rfl ?_
  refine x_iconst dX9_fewest_7 1 rfl ?_
  refine x_sipush dX9_fewest_8 480 (by decide) ?_
  refine xiS3 dX9_fewest_11 s_X9_126 (Nat.le_of_ble_eq_true rfl) (c_in _ _ _) ?_
  refine x_at 14 rfl ?_
  refine x_if_ne 21 dX9_fewest_14 rfl (fun c1 => ?_) (fun c1 => ?_)
  · have c2 := of_decide_eq_true (b2_ne.mp c1)
    rw [oFewest, if_pos c2]
    obtain ⟨k, hk1, hk, rfl, ek⟩ := in19 480 (lo := 1) rfl (by decide) (by decide) c2 (by decide)
    rw [ek]
    have k1 := c_laysAmounts (G := G) (d := d) (h := h) hI0 hW hb (2 ^ wN W - 1) (by omega)
    generalize byA (wM W) (wN W) (2 ^ wN W - 1) = B at k1
    have hI1 : tIn (seta (seti s 0 0) 473 (fB B)) W := hI0.J hW ((tJ.refl hI0.1).seta rfl fB_len)
    refine x_iconst dX9_fewest_21 0 rfl ?_
    refine x_iconst dX9_fewest_22 1 rfl ?_
    refine x_iconst dX9_fewest_23 1 rfl ?_
    refine xiV3 dX9_fewest_24 v_X9_171_27 tw_get0 (Nat.le_of_ble_eq_true rfl) (c_badF hI0.1 hb rfl _ 1 (by decide)) ?_
    refine x_if_eq 32 dX9_fewest_27 rfl (fun _ => ?_) (fun hc9 => absurd (rfl) hc9)
    refine x_aload_n dX9_fewest_32 rfl ?_
    refine x_aload_n dX9_fewest_33 rfl ?_
    refine xiV0 dX9_fewest_34 v_X9_376_27 tw_get0 (Nat.le_of_ble_eq_true rfl) (c_everyThing hI0.1 hI0.2.2.2.1.1 h8) ?_
    refine x_at 37 rfl ?_
    refine xuV1 dX9_fewest_37 v_X9_382_27 tw_get0 (Nat.le_of_ble_eq_true rfl) (k1) ?_
    refine x_aload_n dX9_fewest_40 rfl ?_
    refine t_ga 473 dX9_fewest_41 f_X9_80_27 (by decide) rfl (by decide) ?_
    refine x_iload_n dX9_fewest_44 rfl ?_
    refine t_ia k dX9_fewest_45 hI1.1 (by decide) rfl (show k < 481 by omega) (gt seta_get (fB_get (by omega))) ?_
    exact x_ireturn dX9_fewest_46 rfl (tQ.mk rfl hI1 rfl)
  · have c2 := of_decide_eq_false (b2_eq.mp c1)
    rw [oFewest, if_neg c2]
    refine x_iconst dX9_fewest_17 1 rfl ?_
    refine x_goto 22 dX9_fewest_18 rfl ?_
    refine x_iconst dX9_fewest_22 1 rfl ?_
    refine x_iconst dX9_fewest_23 1 rfl ?_
    refine xiV3 dX9_fewest_24 v_X9_171_27 tw_get0 (Nat.le_of_ble_eq_true rfl) (c_badT hI0.1 hb rfl _ (by decide) 1 (by decide)) ?_
    refine x_if_eq 32 dX9_fewest_27 rfl (fun hc9 => absurd hc9 (by decide)) (fun _ => ?_)
    refine x_iconst dX9_fewest_30 0 rfl ?_
    exact x_ireturn dX9_fewest_31 rfl (tQ.mk rfl (hI0.ref (by decide)) rfl)
end TZ
