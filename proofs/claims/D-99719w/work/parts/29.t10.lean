set_option maxRecDepth 100000
/-! ===== the twin, 10: chains and rings ===== -/
def sBest (s : tS) (b : Int64 × Int64) : tS := setl (setl s 39 b.1) 40 b.2
theorem sBest_sBest {s : tS} {a b : Int64 × Int64} : sBest (sBest s a) b = sBest s b := by
  refine Prod.ext rfl (Prod.ext ?_ rfl)
  funext j
  show (if j = 40 then b.2 else if j = 39 then b.1 else if j = 40 then a.2 else if j = 39 then a.1 else s.2.1 j) = (if j = 40 then b.2 else if j = 39 then b.1 else s.2.1 j)
  by_cases h1 : j = 40
  · simp [h1]
  · by_cases h2 : j = 39
    · simp [h2]
    · simp [h1, h2]
section TC
variable {G : xG} {d : Nat} {h : xH} {T0 : Nat} {s : tS}
theorem c_keeps (hb : G.2.2.1 ≤ T0) (b q : Int64 × Int64) : xMet G d 0 0 m_X9_keeps [.ref T0, .long q.1, .long q.2] (tw T0 h (sBest s b)) (xU (tw T0 h (sBest s (kp b q)))) := by
  refine xMet.of [some (.ref T0), some (.long q.1), none, some (.long q.2), none] pl_X9 rfl (Nat.le_of_ble_eq_true rfl) ?_
  refine x_lload_n dX9_keeps_0 rfl ?_
  refine x_aload_n dX9_keeps_1 rfl ?_
  refine t_gl dX9_keeps_2 f_X9_334_27 (by decide) rfl (by decide) rfl ?_
  refine x_lmul dX9_keeps_5 ?_
  refine x_aload_n dX9_keeps_6 rfl ?_
  refine t_gl dX9_keeps_7 f_X9_338_27 (by decide) rfl (by decide) rfl ?_
  refine x_lload_n dX9_keeps_10 rfl ?_
  refine x_lmul dX9_keeps_11 ?_
  refine x_at 12 rfl ?_
  refine x_lcmp dX9_keeps_12 ?_
  refine x_if_gt 17 dX9_keeps_13 rfl (fun c1 => ?_) (fun c1 => ?_)
  · have c2 : b.1 * q.2 < q.1 * b.2 := (lg_cmp_gt _ _).mp c1
    rw [kp, if_neg (Int64.not_le.mpr c2)]
    refine x_aload_n dX9_keeps_17 rfl ?_
    refine x_lload_n dX9_keeps_18 rfl ?_
    refine t_pl dX9_keeps_19 p_X9_338_27 rfl (by decide) hb ?_
    refine x_aload_n dX9_keeps_22 rfl ?_
    refine x_lload_n dX9_keeps_23 rfl ?_
    refine t_pl dX9_keeps_24 p_X9_334_27 rfl (by decide) hb ?_
    exact x_return dX9_keeps_27 rfl ⟨rfl, congrArg (tw T0 h) (sBest_sBest (a := b) (b := q))⟩
  · have c2 : q.1 * b.2 ≤ b.1 * q.2 := Int64.not_lt.mp (fun q => c1 ((lg_cmp_gt _ _).mpr q))
    rw [kp, if_pos c2]
    exact x_return dX9_keeps_16 rfl ⟨rfl, rfl⟩
variable {M : Mk}
theorem c_chains (hs : tOK s) (hb : G.2.2.1 ≤ T0) (hm : s.2.2 448 = mrow M) (hM : mOK M) (hS : mSm M) (fin : Nat) (hf8 : fin < 8) : ∀ (f : Nat) (p0 : List Nat) (at' : Nat) (been : Int32) (seen : List Nat) (b : Int64 × Int64), at' < 8 → ¬ at' = fin → mk8 been seen → ¬ fin ∈ seen → 9 ≤ seen.length + f →
    xMet G (d + (f + 2)) 0 0 m_X9_chains [.ref T0, .int (nI at'), .int (nI fin), .int been, .long (pU M p0), .long (pD M p0)] (tw T0 h (sBest s b)) (xU (tw T0 h (sBest s (bst M b ((pth (fun _ => true) M fin f at' seen).map (fun p => p0 ++ p)))))) := by
  intro f
  have h10 := hM.2.2
  have j448 : tRow 448 := Or.inl rfl
  induction f with
  | zero =>
    intro p0 at' been seen b _ _ hk _ h9
    have := hk.len
    omega
  | succ f ih =>
    intro p0 at' been seen b ha haf hk hfs h9
    refine xMet.of [some (.ref T0), some (.int (nI at')), some (.int (nI fin)), some (.int been), some (.long (pU M p0)), none, some (.long (pD M p0)), none, none, none, none] pl_X9 rfl (Nat.le_of_ble_eq_true rfl) ?_
    refine x_iload_n dX9_chains_0 rfl ?_
    refine x_iload_n dX9_chains_1 rfl ?_
    refine x_icmp_ne 14 dX9_chains_2 rfl (fun _ => ?_) (fun hc9 => absurd hc9 (fun q => haf ((nI_eq (by omega) (by omega)).mp q)))
    refine x_iconst dX9_chains_14 0 rfl ?_
    refine xsi8 dX9_chains_15 (by decide) rfl ?_
    generalize hE : bst M b ((pth (fun _ => true) M fin (f + 1) at' seen).map (fun p => p0 ++ p)) = bE
    let g := pthC (fun _ => true) M fin (fun b => pth (fun _ => true) M fin f b (b :: seen)) at' seen
    have main : ∀ c, c ≤ M.2.2.1.length → ∀ x9 x10, bst M b (((List.range M.2.2.1.length).flatMap g).map (fun p => p0 ++ p)) = bE → xRun G m_X9_chains (d + (f + 1 + 2)) 0 0 17 [some (.ref T0), some (.int (nI at')), some (.int (nI fin)), some (.int been), some (.long (pU M p0)), none, some (.long (pD M p0)), none, some (.int (nI c)), x9, x10] [] (tw T0 h (sBest s (bst M b (((List.range c).flatMap g).map (fun p => p0 ++ p))))) (xU (tw T0 h (sBest s bE))) := by
      intro c hc
      suffices hh : ∀ k c, c + k = M.2.2.1.length → ∀ x9 x10, bst M b (((List.range M.2.2.1.length).flatMap g).map (fun p => p0 ++ p)) = bE → xRun G m_X9_chains (d + (f + 1 + 2)) 0 0 17 [some (.ref T0), some (.int (nI at')), some (.int (nI fin)), some (.int been), some (.long (pU M p0)), none, some (.long (pD M p0)), none, some (.int (nI c)), x9, x10] [] (tw T0 h (sBest s (bst M b (((List.range c).flatMap g).map (fun p => p0 ++ p))))) (xU (tw T0 h (sBest s bE))) from hh (M.2.2.1.length - c) c (by omega)
      intro k
      induction k with
      | zero =>
        intro c hc x9 x10 hbE
        have e : c = M.2.2.1.length := by omega
        subst e
        rw [hbE]
        refine x_iload dX9_chains_17 rfl ?_
        refine x_aload_n dX9_chains_19 rfl ?_
        refine t_ga 448 dX9_chains_20 f_X9_61_27 (by decide) rfl (by decide) ?_
        refine x_bipush dX9_chains_23 56 (by decide) ?_
        refine t_rj 56 dX9_chains_25 hs j448 hm rfl (by decide) (mrow_n hM) ?_
        refine x_icmp_ge 117 dX9_chains_26 rfl (fun _ => ?_) (fun hc9 => absurd (Int32.le_refl _) hc9)
        exact x_return dX9_chains_117 rfl ⟨rfl, rfl⟩
      | succ k ihk =>
        intro c hc x9 x10 hbE
        have hcl : c < M.2.2.1.length := by omega
        have hq := hS c hcl
        generalize hb1 : bst M b (((List.range c).flatMap g).map (fun p => p0 ++ p)) = b1
        have nx : ∀ b2, b2 = bst M b1 ((g c).map (fun p => p0 ++ p)) → xRun G m_X9_chains (d + (f + 1 + 2)) 0 0 111 [some (.ref T0), some (.int (nI at')), some (.int (nI fin)), some (.int been), some (.long (pU M p0)), none, some (.long (pD M p0)), none, some (.int (nI c)), some (.int (nI (16 + 4 * c))), some (.int (nI (cAt M c).2.2.1))] [] (tw T0 h (sBest s b2)) (xU (tw T0 h (sBest s bE))) := by
          intro b2 e2
          have e3 : b2 = bst M b (((List.range (c + 1)).flatMap g).map (fun p => p0 ++ p)) := by
            rw [e2, ← hb1, ← bst_app, ← List.map_append, List.range_succ, List.flatMap_append]
            simp
          rw [e3]
          refine xinc8 _ dX9_chains_111 (by decide) rfl (nI_1 c) ?_
          refine x_goto 17 dX9_chains_114 rfl ?_
          exact ihk (c + 1) (by omega) _ _ hbE
        have okb : tOK (sBest s b1) := hs
        refine x_iload dX9_chains_17 rfl ?_
        refine x_aload_n dX9_chains_19 rfl ?_
        refine t_ga 448 dX9_chains_20 f_X9_61_27 (by decide) rfl (by decide) ?_
        refine x_bipush dX9_chains_23 56 (by decide) ?_
        refine t_rj 56 dX9_chains_25 okb j448 hm rfl (by decide) (mrow_n hM) ?_
        refine x_icmp_ge 117 dX9_chains_26 rfl (fun hc9 => absurd hc9 (nI_ge hcl (by omega))) (fun _ => ?_)
        refine x_bipush dX9_chains_29 16 (by decide) ?_
        refine x_iconst dX9_chains_31 4 rfl ?_
        refine x_at 32 rfl ?_
        refine x_iload dX9_chains_32 rfl ?_
        refine x_imul dX9_chains_34 ?_
        refine x_iadd dX9_chains_35 ?_
        rw [ix_c c]
        refine xsi9 dX9_chains_36 (by decide) rfl ?_
        refine x_aload_n dX9_chains_38 rfl ?_
        refine t_ga 448 dX9_chains_39 f_X9_61_27 (by decide) rfl (by decide) ?_
        refine x_iload dX9_chains_42 rfl ?_
        refine x_iconst dX9_chains_44 2 rfl ?_
        refine x_iadd dX9_chains_45 ?_
        refine t_rj (16 + 4 * c + 2) dX9_chains_46 okb j448 hm (nI_add _ 2) (by omega) (mr_b hM hcl) ?_
        refine xsi10 dX9_chains_47 (by decide) rfl ?_
        refine x_at 49 rfl ?_
        refine x_aload_n dX9_chains_49 rfl ?_
        refine t_ga 448 dX9_chains_50 f_X9_61_27 (by decide) rfl (by decide) ?_
        refine x_iload dX9_chains_53 rfl ?_
        refine t_rj (16 + 4 * c) dX9_chains_55 okb j448 hm rfl (by omega) (mr_a hM hcl) ?_
        refine x_iload_n dX9_chains_56 rfl ?_
        refine x_icmp_ne 111 dX9_chains_57 rfl (fun c1 => ?_) (fun c1 => ?_)
        · refine nx b1 ?_
          have : g c = [] := if_pos (Or.inr (fun q => c1 (by rw [q])))
          rw [this]
          rfl
        · have c2 : (cAt M c).1 = at' := (nI_eq (by omega) (by omega)).mp c1
          have c3 : ¬ ((fun _ : Nat => true) c = false ∨ ¬ (cAt M c).1 = at') := fun q => q.elim (fun r => nomatch r) (fun r => r c2)
          refine x_iload_n dX9_chains_60 rfl ?_
          refine x_iload dX9_chains_61 rfl ?_
          refine xiS2 dX9_chains_63 s_X9_345 (Nat.le_of_ble_eq_true rfl) (c_has _ _) ?_
          refine x_if_eq 72 dX9_chains_66 rfl (fun c4 => ?_) (fun c4 => ?_)
          · have c5 : ¬ (cAt M c).2.2.1 ∈ seen := by
              have := b2_eq.mp c4
              rw [hk.1 _ hq.2.2.1] at this
              exact of_decide_eq_false this
            refine x_aload_n dX9_chains_72 rfl ?_
            refine x_iload dX9_chains_73 rfl ?_
            refine x_iload_n dX9_chains_75 rfl ?_
            refine x_iload_n dX9_chains_76 rfl ?_
            refine x_iconst dX9_chains_77 1 rfl ?_
            refine x_iload dX9_chains_78 rfl ?_
            refine x_ishl dX9_chains_80 ?_
            refine x_ior dX9_chains_81 ?_
            refine x_at 82 rfl ?_
            refine x_lload dX9_chains_82 rfl ?_
            refine x_aload_n dX9_chains_84 rfl ?_
            refine t_ga 448 dX9_chains_85 f_X9_61_27 (by decide) rfl (by decide) ?_
            refine x_iload dX9_chains_88 rfl ?_
            refine x_iconst dX9_chains_90 3 rfl ?_
            refine x_iadd dX9_chains_91 ?_
            refine t_rj (16 + 4 * c + 3) dX9_chains_92 okb j448 hm (nI_add _ 3) (by omega) (mr_m hM hcl) ?_
            refine x_i2l dX9_chains_93 ?_
            refine x_at 94 rfl ?_
            refine x_lmul dX9_chains_94 ?_
            refine x_lload dX9_chains_95 rfl ?_
            refine x_aload_n dX9_chains_97 rfl ?_
            refine t_ga 448 dX9_chains_98 f_X9_61_27 (by decide) rfl (by decide) ?_
            refine x_iload dX9_chains_101 rfl ?_
            refine x_iconst dX9_chains_103 1 rfl ?_
            refine x_iadd dX9_chains_104 ?_
            refine t_rj (16 + 4 * c + 1) dX9_chains_105 okb j448 hm (nI_add _ 1) (by omega) (mr_n hM hcl) ?_
            refine x_at 106 rfl ?_
            refine x_i2l dX9_chains_106 ?_
            refine x_lmul dX9_chains_107 ?_
            rw [← pU_snoc, ← pD_snoc]
            by_cases e : (cAt M c).2.2.1 = fin
            · refine xuV5 dX9_chains_108 v_X9_348_27 tw_get0 (Nat.le_of_ble_eq_true rfl) ?_ (nx _ rfl)
              refine xMet.of [some (.ref T0), some (.int (nI (cAt M c).2.2.1)), some (.int (nI fin)), some (.int (been ||| sh1 (cAt M c).2.2.1)), some (.long (pU M (p0 ++ [c]))), none, some (.long (pD M (p0 ++ [c]))), none, none, none, none] pl_X9 rfl (Nat.le_of_ble_eq_true rfl) ?_
              have eg : g c = [[c]] := by
                show (if _ then _ else if _ then _ else _) = _
                rw [if_neg c3, if_pos e]
              rw [eg, e]
              refine x_iload_n dX9_chains_0 rfl ?_
              refine x_iload_n dX9_chains_1 rfl ?_
              refine x_icmp_ne 14 dX9_chains_2 rfl (fun hc9 => absurd (rfl) hc9) (fun _ => ?_)
              refine x_aload_n dX9_chains_5 rfl ?_
              refine x_lload dX9_chains_6 rfl ?_
              refine x_lload dX9_chains_8 rfl ?_
              refine xuV2 dX9_chains_10 v_X9_341_27 tw_get0 (Nat.le_of_ble_eq_true rfl) (c_keeps hb b1 (pU M (p0 ++ [c]), pD M (p0 ++ [c]))) ?_
              exact x_return dX9_chains_13 rfl ⟨rfl, rfl⟩
            · refine xuV5 dX9_chains_108 v_X9_348_27 tw_get0 (Nat.le_of_ble_eq_true rfl) (ih (p0 ++ [c]) _ _ ((cAt M c).2.2.1 :: seen) b1 hq.2.2.1 e (hk.cons hq.2.2.1 c5) ?_ ?_) (nx _ ?_)
              · intro q
                rcases List.mem_cons.mp q with q | q
                · exact e q.symm
                · exact hfs q
              · show 9 ≤ seen.length + 1 + f
                omega
              · have eg : g c = (pth (fun _ => true) M fin f (cAt M c).2.2.1 ((cAt M c).2.2.1 :: seen)).map (fun p => c :: p) := by
                  show (if _ then _ else if _ then _ else if _ then _ else _) = _
                  rw [if_neg c3, if_neg e, if_neg c5]
                rw [eg, List.map_map]
                congr 1
                apply List.map_congr_left
                intro p _
                simp
          · have c5 : (cAt M c).2.2.1 ∈ seen := by
              have := b2_ne.mp c4
              rw [hk.1 _ hq.2.2.1] at this
              exact of_decide_eq_true this
            refine x_goto 111 dX9_chains_69 rfl ?_
            refine nx b1 ?_
            have eg : g c = [] := by
              show (if _ then _ else if _ then _ else if _ then _ else _) = _
              rw [if_neg c3, if_neg (fun q : (cAt M c).2.2.1 = fin => hfs (q ▸ c5)), if_pos c5]
            rw [eg]
            rfl
    exact main 0 (Nat.zero_le _) _ _ hE
end TC
