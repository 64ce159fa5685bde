set_option maxRecDepth 100000
/-! ===== the twin, 19: feeding, images ===== -/
section TY
variable {G : xG} {d : Nat} {h : xH} {T0 : Nat} {s : tS} {W : Wd}
theorem seti_seti {s : tS} {k : Nat} {a b : Int32} : seti (seti s k a) k b = seti s k b := by
  refine Prod.ext ?_ rfl
  funext j
  show (if j = k then b else if j = k then a else s.1 j) = (if j = k then b else s.1 j)
  by_cases e : j = k
  · rw [if_pos e, if_pos e]
  · rw [if_neg e, if_neg e, if_neg e]
theorem seti_get {s : tS} {k : Nat} {a : Int32} : (seti s k a).1 k = a := if_pos rfl
theorem seti_ne {s : tS} {j k : Nat} {a : Int32} (h : ¬ j = k) : (seti s k a).1 j = s.1 j := if_neg h
theorem seti_id {s : tS} {k : Nat} {a : Int32} (h : s.1 k = a) : seti s k a = s := by
  refine Prod.ext ?_ rfl
  funext j
  show (if j = k then a else s.1 j) = s.1 j
  by_cases e : j = k
  · rw [if_pos e, e, h]
  · rw [if_neg e]
theorem set_same {l : List Int32} {n : Nat} : l.set n (l.getD n 0) = l := by
  by_cases h : n < l.length
  · refine getD_ext (by rw [List.length_set]) (fun i hi => ?_)
    rw [getD_set h]
    by_cases e : i = n
    · rw [if_pos e, e]
    · rw [if_neg e]
  · rw [List.set_eq_of_length_le (by omega)]
theorem p_feed (hI : tIn s W) (hW : wOK W) (hb : G.2.2.1 ≤ T0) (a b c e f : Int32) : xMet G (d + 1) 0 0 m_X9_feed [.ref T0, .int a, .int b, .int c, .int e, .int f] (tw T0 h s) (tQ T0 h (oFeed W a b c e f)) := by
  refine xMet.of [some (.ref T0), some (.int a), some (.int b), some (.int c), some (.int e), some (.int f), none, none] pl_X9 rfl (Nat.le_of_ble_eq_true rfl) ?_
  have hI0 := hI.J hW ((tJ.refl hI.1).seti (k := 0) (v := 0) rfl)
  have ht := hI0.2.1
  have hl6 := hW.1
  refine x_aload_n dX9_feed_0 rfl ?_
  refine x_iconst dX9_feed_1 0 rfl ?_
  refine t_pi dX9_feed_2 p_X9_92_27 rfl (by decide) hb ?_
  refine x_aload_n dX9_feed_5 rfl ?_
  refine t_gi dX9_feed_6 f_X9_95_27 (by decide) rfl (by decide) ht.1 ?_
  refine x_bipush dX9_feed_9 20 (by decide) ?_
  refine x_iadd dX9_feed_11 ?_
  rw [show nI (wTp W).length + 20 = nI ((wTp W).length + 20) from nI_add _ 20]
  refine x_sipush dX9_feed_12 600 (by decide) ?_
  refine x_icmp_le 20 dX9_feed_15 rfl (fun c1 => ?_) (fun c1 => ?_)
  · have c2 : (wTp W).length + 20 ≤ 600 := (nI_leI (b := 600) (by omega) (by decide)).mp c1
    rw [oFeed, if_neg (by omega)]
    refine x_iconst dX9_feed_20 0 rfl ?_
    refine xsi6 dX9_feed_21 (by decide) rfl ?_
    generalize hN : (wTp W).length = N at *
    suffices hh : ∀ (r : List Int32) x7, r.length = 600 → (∀ i, i < N → r.getD i 0 = nI ((wTp W).getD i 0)) → (∀ i, i < 0 → r.getD (N + i) 0 = nI (byN (fdV a b c e f i) i)) → xRun G m_X9_feed (d + 1) 0 0 23 [some (.ref T0), some (.int a), some (.int b), some (.int c), some (.int e), some (.int f), some (.int (nI 0)), x7] [] (tw T0 h (seti (seta (seti s 0 0) 1 r) 1 (nI (N + 0)))) (tQ T0 h (0, nI (N + 20), wsT W (wTp W ++ fdL a b c e f))) by
      have := hh ((seti s 0 0).2.2 1) none (hI.1 1) ht.2 (fun i hi => absurd hi (Nat.not_lt_zero _))
      rw [seta_id rfl, seti_id (by exact ht.1)] at this
      exact this
    refine xfor (fun k => ∀ (r : List Int32) x7, r.length = 600 → (∀ i, i < N → r.getD i 0 = nI ((wTp W).getD i 0)) → (∀ i, i < k → r.getD (N + i) 0 = nI (byN (fdV a b c e f i) i)) → xRun G m_X9_feed (d + 1) 0 0 23 [some (.ref T0), some (.int a), some (.int b), some (.int c), some (.int e), some (.int f), some (.int (nI k)), x7] [] (tw T0 h (seti (seta (seti s 0 0) 1 r) 1 (nI (N + k)))) (tQ T0 h (0, nI (N + 20), wsT W (wTp W ++ fdL a b c e f)))) 20 ?_ ?_
    · intro k hk ih r x7 hl h1 h2
      have okr : tOK (seta (seti s 0 0) 1 r) := seta_ok hI.1 hl
      have nx : ∀ v x7, v = fdV a b c e f k → xnl (some (.int v)) = true → xRun G m_X9_feed (d + 1) 0 0 76 [some (.ref T0), some (.int a), some (.int b), some (.int c), some (.int e), some (.int f), some (.int (nI k)), x7] [.int v] (tw T0 h (seti (seta (seti s 0 0) 1 r) 1 (nI (N + k)))) (tQ T0 h (0, nI (N + 20), wsT W (wTp W ++ fdL a b c e f))) := by
        intro v x7 hv _
        refine xsi7 dX9_feed_76 (by decide) rfl ?_
        refine x_aload_n dX9_feed_78 rfl ?_
        refine t_ga 1 dX9_feed_79 f_X9_13_27 (by decide) rfl (by decide) ?_
        refine x_aload_n dX9_feed_82 rfl ?_
        refine t_gi dX9_feed_83 f_X9_95_27 (by decide) rfl (by decide) seti_get ?_
        refine x_iload dX9_feed_86 rfl ?_
        refine x_bipush dX9_feed_88 24 (by decide) ?_
        refine x_bipush dX9_feed_90 8 (by decide) ?_
        refine x_at 92 rfl ?_
        refine x_iload dX9_feed_92 rfl ?_
        refine x_iconst dX9_feed_94 4 rfl ?_
        refine x_irem dX9_feed_95 (by decide) ?_
        refine x_imul dX9_feed_96 ?_
        refine x_isub dX9_feed_97 ?_
        refine x_ishr dX9_feed_98 ?_
        rw [shN k hk]
        refine x_sipush dX9_feed_99 255 (by decide) ?_
        refine x_iand dX9_feed_102 ?_
        rw [pk_and _ 8 (m := 255) (by decide)]
        refine t_is (N + k) dX9_feed_103 (s := seti (seta (seti s 0 0) 1 r) 1 (nI (N + k))) okr (by decide) rfl (show N + k < 600 by omega) hb ?_
        rw [show ((seti (seta (seti s 0 0) 1 r) 1 (nI (N + k))).2.2 1) = r from seta_get]
        have est : seta (seti (seta (seti s 0 0) 1 r) 1 (nI (N + k))) 1 (r.set (N + k) (nI ((v >>> nI (24 - 8 * (k % 4))).toBitVec.toNat % 2 ^ 8))) = seti (seta (seti s 0 0) 1 (r.set (N + k) (nI ((v >>> nI (24 - 8 * (k % 4))).toBitVec.toNat % 2 ^ 8)))) 1 (nI (N + k)) := by
          show seti (seta (seta (seti s 0 0) 1 r) 1 _) 1 _ = _
          rw [seta_seta]
        rw [est]
        refine x_aload_n dX9_feed_104 rfl ?_
        refine x_dup dX9_feed_105 rfl ?_
        refine t_gi dX9_feed_106 f_X9_95_27 (by decide) rfl (by decide) seti_get ?_
        refine x_iconst dX9_feed_109 1 rfl ?_
        refine x_iadd dX9_feed_110 ?_
        rw [nI_1]
        refine t_pi dX9_feed_111 p_X9_95_27 rfl (by decide) hb ?_
        refine xinc6 _ dX9_feed_114 (by decide) rfl (nI_1 k) ?_
        rw [seti_seti]
        refine x_goto 23 dX9_feed_117 rfl ?_
        refine ih _ _ (by rw [List.length_set]; exact hl) (fun i hi => ?_) (fun i hi => ?_)
        · rw [getD_set (by omega), if_neg (by omega)]
          exact h1 i hi
        · rw [getD_set (by omega)]
          by_cases e9 : i = k
          · rw [if_pos (by omega), e9, hv]; rfl
          · rw [if_neg (by omega)]; exact h2 i (by omega)
      refine x_iload dX9_feed_23 rfl ?_
      refine x_bipush dX9_feed_25 20 (by decide) ?_
      refine x_icmp_ge 120 dX9_feed_27 rfl (fun hc9 => absurd hc9 (nI_ge hk (by decide))) (fun _ => ?_)
      refine x_iload dX9_feed_30 rfl ?_
      refine x_iconst dX9_feed_32 4 rfl ?_
      refine x_icmp_ge 40 dX9_feed_33 rfl (fun c3 => ?_) (fun c3 => ?_)
      · have c4 : ¬ k < 4 := by have := (nI_leI (a := 4) (by decide) (by omega)).mp c3; omega
        refine x_iload dX9_feed_40 rfl ?_
        refine x_bipush dX9_feed_42 8 (by decide) ?_
        refine x_icmp_ge 51 dX9_feed_44 rfl (fun c5 => ?_) (fun c5 => ?_)
        · have c6 : ¬ k < 8 := by have := (nI_leI (a := 8) (by decide) (by omega)).mp c5; omega
          refine x_iload dX9_feed_51 rfl ?_
          refine x_bipush dX9_feed_53 12 (by decide) ?_
          refine x_icmp_ge 62 dX9_feed_55 rfl (fun c7 => ?_) (fun c7 => ?_)
          · have c8 : ¬ k < 12 := by have := (nI_leI (a := 12) (by decide) (by omega)).mp c7; omega
            refine x_iload dX9_feed_62 rfl ?_
            refine x_bipush dX9_feed_64 16 (by decide) ?_
            refine x_icmp_ge 74 dX9_feed_66 rfl (fun c9 => ?_) (fun c9 => ?_)
            · have c10 : ¬ k < 16 := by have := (nI_leI (a := 16) (by decide) (by omega)).mp c9; omega
              refine x_iload dX9_feed_74 rfl ?_
              exact nx _ _ (by rw [fdV, if_neg c4, if_neg c6, if_neg c8, if_neg c10]) rfl
            · have c10 : k < 16 := Nat.lt_of_not_le (fun z => c9 ((nI_leI (a := 16) (by decide) (by omega)).mpr z))
              refine x_iload dX9_feed_69 rfl ?_
              refine x_goto 76 dX9_feed_71 rfl ?_
              exact nx _ _ (by rw [fdV, if_neg c4, if_neg c6, if_neg c8, if_pos c10]) rfl
          · have c8 : k < 12 := Nat.lt_of_not_le (fun z => c7 ((nI_leI (a := 12) (by decide) (by omega)).mpr z))
            refine x_iload_n dX9_feed_58 rfl ?_
            refine x_goto 76 dX9_feed_59 rfl ?_
            exact nx _ _ (by rw [fdV, if_neg c4, if_neg c6, if_pos c8]) rfl
        · have c6 : k < 8 := Nat.lt_of_not_le (fun z => c5 ((nI_leI (a := 8) (by decide) (by omega)).mpr z))
          refine x_iload_n dX9_feed_47 rfl ?_
          refine x_goto 76 dX9_feed_48 rfl ?_
          exact nx _ _ (by rw [fdV, if_neg c4, if_pos c6]) rfl
      · have c4 : k < 4 := Nat.lt_of_not_le (fun z => c3 ((nI_leI (a := 4) (by decide) (by omega)).mpr z))
        refine x_iload_n dX9_feed_36 rfl ?_
        refine x_goto 76 dX9_feed_37 rfl ?_
        exact nx _ _ (by rw [fdV, if_pos c4]) rfl
    · intro r x7 hl h1 h2
      refine x_iload dX9_feed_23 rfl ?_
      refine x_bipush dX9_feed_25 20 (by decide) ?_
      refine x_icmp_ge 120 dX9_feed_27 rfl (fun _ => ?_) (fun hc9 => absurd (Int32.le_refl _) hc9)
      refine x_aload_n dX9_feed_120 rfl ?_
      refine t_gi dX9_feed_121 f_X9_95_27 (by decide) rfl (by decide) seti_get ?_
      refine x_ireturn dX9_feed_124 rfl (tQ.mk rfl ?_ rfl)
      obtain ⟨q0, q1, q2, q3, q4, q5, q6, q7, q8, q9, q10⟩ := hI0
      have hA : ∀ j, ¬ j = 1 → (seti (seta (seti s 0 0) 1 r) 1 (nI (N + 20))).2.2 j = s.2.2 j := fun j hj => seta_ne hj
      have hFd : ∀ k, ¬ k = 1 → (seti (seta (seti s 0 0) 1 r) 1 (nI (N + 20))).1 k = (seti s 0 0).1 k := fun k hk => seti_ne hk
      refine ⟨seta_ok (s := seti s 0 0) q0 hl, ⟨?_, fun i hi => ?_⟩, (hFd 3 (by decide)).trans q2, ?_, ⟨(hFd 17 (by decide)).trans q4.1, q4.2.1, fun i hi => (hA _ (by omega)).trans (q4.2.2.1 i hi), q4.2.2.2⟩, (hA 448 (by decide)).trans q5, ⟨(hFd 33 (by decide)).trans q6.1, fun i hi => (hA _ (by omega)).trans (q6.2 i hi)⟩, ⟨(hFd 35 (by decide)).trans q7.1, fun i hi => by rw [hA _ (by omega)]; exact q7.2 i hi⟩, ⟨(hFd 32 (by decide)).trans q8.1, fun i hi => (hA _ (by omega)).trans (q8.2 i hi)⟩, (hFd 34 (by decide)).trans q9, (hA 2 (by decide)).trans q10⟩
      · rw [seti_get]
        show _ = nI (wTp W ++ fdL a b c e f).length
        rw [List.length_append, fdL_len, hN]
      · have hi2 : i < (wTp W ++ fdL a b c e f).length := hi
        rw [List.length_append, fdL_len, hN] at hi2
        show (r).getD i 0 = nI ((wTp W ++ fdL a b c e f).getD i 0)
        rw [getD_app, hN]
        by_cases z : i < N
        · rw [if_pos z]; exact h1 i z
        · rw [if_neg z, fdL_get (by omega), ← h2 (i - N) (by omega), show N + (i - N) = i by omega]
      · rw [hA 4 (by decide), hA 6 (by decide)]
        exact q3
  · have c2 : ¬ (wTp W).length + 20 ≤ 600 := fun z => c1 ((nI_leI (b := 600) (by omega) (by decide)).mpr z)
    rw [oFeed, if_pos (by omega)]
    refine x_iconst dX9_feed_18 (-1) rfl ?_
    exact x_ireturn dX9_feed_19 rfl (tQ.mk rfl hI0 rfl)
end TY
