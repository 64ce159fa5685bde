set_option maxRecDepth 100000
/-! ===== the twin, 11: rings ===== -/
def fz (fats : List Nat) : List Int32 := (List.range 1024).map (fun i => b2 (decide (i ∈ fats)))
theorem fz_len {fats : List Nat} : (fz fats).length = 1024 := by unfold fz; rw [List.length_map, List.length_range]
theorem fz_get {fats : List Nat} {n : Nat} (h : n < 1024) : (fz fats).getD n 0 = b2 (decide (n ∈ fats)) := by
  unfold fz
  rw [List.getD_eq_getElem?_getD, List.getElem?_map, List.getElem?_range h]
  rfl
theorem fz_set {fats : List Nat} {n : Nat} (h : n < 1024) : (fz fats).set n 1 = fz (n :: fats) := by
  refine getD_ext (by rw [List.length_set, fz_len, fz_len]) (fun i hi => ?_)
  rw [List.length_set, fz_len] at hi
  rw [getD_set (by rw [fz_len]; exact h), fz_get hi, fz_get hi]
  by_cases e : i = n
  · rw [if_pos e, e]; simp; rfl
  · rw [if_neg e]
    congr 1
    exact decide_eq_decide.mpr ⟨fun q => List.mem_cons_of_mem _ q, fun q => (List.mem_cons.mp q).resolve_left e⟩
/-- the twin among rings -/
def sRg (s : tS) (r : Rg) : tS := seti (seta (sBest s r.1) 472 (fz r.2.1)) 42 (oN r.2.2)
theorem sRg_ok {s : tS} {r : Rg} (hs : tOK s) : tOK (sRg s r) := seta_ok (s := sBest s r.1) hs fz_len
theorem sRg_a {s : tS} {r : Rg} {j : Nat} (hj : ¬ j = 472) : (sRg s r).2.2 j = s.2.2 j := seta_ne (s := sBest s r.1) hj
theorem pc_le10 (m : Nat) : pc m ≤ 10 := by
  have : ∀ (l : List Nat) (n : Nat), l.foldl (fun n k => if m.testBit k then n + 1 else n) n ≤ n + l.length := by
    intro l
    induction l with
    | nil => intro n; exact Nat.le_refl _
    | cons a l ih =>
      intro n
      rw [List.foldl_cons, List.length_cons]
      have h2 : (if m.testBit a then n + 1 else n) ≤ n + 1 := by split <;> omega
      exact Nat.le_trans (ih _) (by omega)
  exact this (List.range 10) 0
/-- the fewest are few -/
def rgB (r : Rg) : Prop := ∀ q, r.2.2 = some q → q ≤ 11
theorem omin_le {o : Option Nat} {k : Nat} (ho : ∀ q, o = some q → q ≤ 11) (hk : k ≤ 11) : ∀ q, omin o k = some q → q ≤ 11 := by
  intro q hq
  cases o with
  | none => cases hq; exact hk
  | some j =>
    have := ho j rfl
    unfold omin at hq
    cases hq
    split <;> omega
theorem rgS_B {M : Mk} {r : Rg} {p : List Nat} (h : rgB r) : rgB (rgS M r p) := by
  intro q hq
  unfold rgS at hq
  by_cases c : pD M p < pU M p
  · rw [if_pos c, if_pos c] at hq
    exact omin_le h (by unfold pL; have := pc_le10 (pS p.dropLast); omega) q hq
  · rw [if_neg c, if_neg c] at hq
    exact h q hq
theorem rgF_B {M : Mk} : ∀ (ps : List (List Nat)) {r : Rg}, rgB r → rgB (rgF M r ps)
  | [], _, h => h
  | p :: ps, _, h => rgF_B ps (rgS_B h)
section TG
variable {G : xG} {d : Nat} {h : xH} {T0 : Nat} {s : tS} {M : Mk}
theorem tw_z {T0 : Nat} {h : xH} {s : tS} : (tw T0 h s).1 (T0 + 472) = some (102, (s.2.2 472).map .int) := tw_get (j := 472) (by decide)
theorem t_zs {y : xM} {d C S pc : Nat} {L : List (Option Value)} {st : List Value} {Q : xQ} {i x : Int32} (n : Nat) (hw : narrow .boolean (.int x) = .int x) (hd : decode y.2.1 pc = .ok (.bastore, 1)) (hs : tOK s) (hi : i = nI n) (hn : n < 1024) (hb : G.2.2.1 ≤ T0) (kk : xRun G y d C S (pc + 1) L st (tw T0 h (seta s 472 ((s.2.2 472).set n x))) Q) : xRun G y d C S pc L (.int x :: .int i :: .ref (T0 + 472) :: st) (tw T0 h s) Q := by
  refine x_zastore n hw hd tw_z hi (by rw [List.length_map, hs 472]; exact hn) (by omega) ?_
  rw [show xup (tw T0 h s) (T0 + 472) (102, ((s.2.2 472).map Value.int).set n (.int x)) = tw T0 h (seta s 472 ((s.2.2 472).set n x)) from tw_up (by decide) _ (by
    show (102, ((seta s 472 ((s.2.2 472).set n x)).2.2 472).map Value.int) = _
    rw [seta_get, List.map_set]) tcell_a]
  exact kk
theorem t_za {y : xM} {d C S pc : Nat} {L : List (Option Value)} {st : List Value} {Q : xQ} {i v : Int32} (n : Nat) (hd : decode y.2.1 pc = .ok (.baload, 1)) (hs : tOK s) (hi : i = nI n) (hn : n < 1024) (hv : (s.2.2 472).getD n 0 = v) (kk : xRun G y d C S (pc + 1) L (.int v :: st) (tw T0 h s) Q) : xRun G y d C S pc L (.int i :: .ref (T0 + 472) :: st) (tw T0 h s) Q :=
  x_zaload n hd tw_z hi (by rw [tget (by rw [hs 472]; exact hn), hv]) kk
theorem rg_keep {s : tS} {r : Rg} {b : Int64 × Int64} : sBest (sRg s r) b = sRg s (b, r.2) := by
  unfold sRg
  refine Prod.ext rfl (Prod.ext ?_ rfl)
  show (sBest (sBest s r.1) b).2.1 = (sBest s b).2.1
  rw [sBest_sBest]
theorem c_rings (hs : tOK s) (hb : G.2.2.1 ≤ T0) (hm : s.2.2 448 = mrow M) (hM : mOK M) (hS : mSm M) (t : Nat) (ht8 : t < 8) : ∀ (f : Nat) (p0 : List Nat) (at' : Nat) (been : Int32) (seen : List Nat) (r : Rg), rgB r → (∀ c ∈ p0, c < 10) → at' < 8 → mk8 been seen → t ∈ seen → 9 ≤ seen.length + f →
    xMet G (d + (f + 3)) 0 0 m_X9_rings [.ref T0, .int (nI t), .int (nI at'), .int been, .int (nI (pS p0)), .long (pU M p0), .long (pD M p0)] (tw T0 h (sRg s r)) (xU (tw T0 h (sRg s (rgF M r ((pth (fun c => decide (t ≤ (cAt M c).2.2.1)) M t f at' seen).map (fun p => p0 ++ p)))))) := by
  intro f
  have h10 := hM.2.2
  have j448 : tRow 448 := Or.inl rfl
  induction f with
  | zero =>
    intro p0 at' been seen b _ _ _ hk _ h9
    have := hk.len
    omega
  | succ f ih =>
    intro p0 at' been seen r hrB hp0 ha hk hts h9
    refine xMet.of [some (.ref T0), some (.int (nI t)), some (.int (nI at')), some (.int been), some (.int (nI (pS p0))), some (.long (pU M p0)), none, some (.long (pD M p0)), none, none, none, none, none, none, none, none] pl_X9 rfl (Nat.le_of_ble_eq_true rfl) ?_
    refine x_iconst dX9_rings_0 0 rfl ?_
    refine xsi9 dX9_rings_1 (by decide) rfl ?_
    generalize hE : rgF M r ((pth (fun c => decide (t ≤ (cAt M c).2.2.1)) M t (f + 1) at' seen).map (fun p => p0 ++ p)) = rE
    let g := pthC (fun c => decide (t ≤ (cAt M c).2.2.1)) M t (fun b => pth (fun c => decide (t ≤ (cAt M c).2.2.1)) M t f b (b :: seen)) at' seen
    have hpS := pS_lt hp0
    have main : ∀ k c, c + k = M.2.2.1.length → ∀ x10 x11 x12 x14, rgF M r (((List.range M.2.2.1.length).flatMap g).map (fun p => p0 ++ p)) = rE → xRun G m_X9_rings (d + (f + 1 + 3)) 0 0 3 [some (.ref T0), some (.int (nI t)), some (.int (nI at')), some (.int been), some (.int (nI (pS p0))), some (.long (pU M p0)), none, some (.long (pD M p0)), none, some (.int (nI c)), x10, x11, x12, none, x14, none] [] (tw T0 h (sRg s (rgF M r (((List.range c).flatMap g).map (fun p => p0 ++ p))))) (xU (tw T0 h (sRg s rE))) := by
      intro k
      induction k with
      | zero =>
        intro c hc x10 x11 x12 x14 hbE
        have e : c = M.2.2.1.length := by omega
        subst e
        rw [hbE]
        refine x_iload dX9_rings_3 rfl ?_
        refine x_aload_n dX9_rings_5 rfl ?_
        refine t_ga 448 dX9_rings_6 f_X9_61_27 (by decide) rfl (by decide) ?_
        refine x_bipush dX9_rings_9 56 (by decide) ?_
        refine t_rj 56 dX9_rings_11 (sRg_ok hs) j448 ((sRg_a (by decide)).trans hm) rfl (by decide) (mrow_n hM) ?_
        refine x_icmp_ge 207 dX9_rings_12 rfl (fun _ => ?_) (fun hc9 => absurd (Int32.le_refl _) hc9)
        exact x_return dX9_rings_207 rfl ⟨rfl, rfl⟩
      | succ k ihk =>
        intro c hc x10 x11 x12 x14 hbE
        have hcl : c < M.2.2.1.length := by omega
        have hc10 : c < 10 := by omega
        have hq := hS c hcl
        generalize hb1 : rgF M r (((List.range c).flatMap g).map (fun p => p0 ++ p)) = r1
        have hr1B : rgB r1 := by rw [← hb1]; exact rgF_B _ hrB
        have nx : ∀ r2 x12 x14, r2 = rgF M r1 ((g c).map (fun p => p0 ++ p)) → xRun G m_X9_rings (d + (f + 1 + 3)) 0 0 201 [some (.ref T0), some (.int (nI t)), some (.int (nI at')), some (.int been), some (.int (nI (pS p0))), some (.long (pU M p0)), none, some (.long (pD M p0)), none, some (.int (nI c)), some (.int (nI (16 + 4 * c))), some (.int (nI (cAt M c).2.2.1)), x12, none, x14, none] [] (tw T0 h (sRg s r2)) (xU (tw T0 h (sRg s rE))) := by
          intro r2 x12 x14 e2
          have e3 : r2 = rgF M r (((List.range (c + 1)).flatMap g).map (fun p => p0 ++ p)) := by
            rw [e2, ← hb1, ← rgF_app, ← List.map_append, List.range_succ, List.flatMap_append]
            simp
          rw [e3]
          refine xinc9 _ dX9_rings_201 (by decide) rfl (nI_1 c) ?_
          refine x_goto 3 dX9_rings_204 rfl ?_
          exact ihk (c + 1) (by omega) _ _ _ _ hbE
        have okb : tOK (sRg s r1) := sRg_ok hs
        have hm1 : (sRg s r1).2.2 448 = mrow M := (sRg_a (by decide)).trans hm
        refine x_iload dX9_rings_3 rfl ?_
        refine x_aload_n dX9_rings_5 rfl ?_
        refine t_ga 448 dX9_rings_6 f_X9_61_27 (by decide) rfl (by decide) ?_
        refine x_bipush dX9_rings_9 56 (by decide) ?_
        refine t_rj 56 dX9_rings_11 okb j448 hm1 rfl (by decide) (mrow_n hM) ?_
        refine x_icmp_ge 207 dX9_rings_12 rfl (fun hc9 => absurd hc9 (nI_ge hcl (by omega))) (fun _ => ?_)
        refine x_bipush dX9_rings_15 16 (by decide) ?_
        refine x_iconst dX9_rings_17 4 rfl ?_
        refine x_at 18 rfl ?_
        refine x_iload dX9_rings_18 rfl ?_
        refine x_imul dX9_rings_20 ?_
        refine x_iadd dX9_rings_21 ?_
        rw [ix_c c]
        refine xsi10 dX9_rings_22 (by decide) rfl ?_
        refine x_aload_n dX9_rings_24 rfl ?_
        refine t_ga 448 dX9_rings_25 f_X9_61_27 (by decide) rfl (by decide) ?_
        refine x_iload dX9_rings_28 rfl ?_
        refine x_iconst dX9_rings_30 2 rfl ?_
        refine x_iadd dX9_rings_31 ?_
        refine t_rj (16 + 4 * c + 2) dX9_rings_32 okb j448 hm1 (nI_add _ 2) (by omega) (mr_b hM hcl) ?_
        refine xsi11 dX9_rings_33 (by decide) rfl ?_
        refine x_at 35 rfl ?_
        refine x_aload_n dX9_rings_35 rfl ?_
        refine t_ga 448 dX9_rings_36 f_X9_61_27 (by decide) rfl (by decide) ?_
        refine x_iload dX9_rings_39 rfl ?_
        refine t_rj (16 + 4 * c) dX9_rings_41 okb j448 hm1 rfl (by omega) (mr_a hM hcl) ?_
        refine x_iload_n dX9_rings_42 rfl ?_
        refine x_icmp_ne 201 dX9_rings_43 rfl (fun c1 => ?_) (fun c1 => ?_)
        · refine nx r1 _ _ ?_
          have : g c = [] := if_pos (Or.inr (fun q => c1 (by rw [q])))
          rw [this]
          rfl
        · have c2 : (cAt M c).1 = at' := (nI_eq (by omega) (by omega)).mp c1
          refine x_iload dX9_rings_46 rfl ?_
          refine x_iload_n dX9_rings_48 rfl ?_
          refine x_icmp_lt 201 dX9_rings_49 rfl (fun c3 => ?_) (fun c3 => ?_)
          · have c4 : (cAt M c).2.2.1 < t := (nI_ltI (by omega) (by omega)).mp c3
            refine nx r1 _ _ ?_
            have : g c = [] := if_pos (Or.inl (decide_eq_false (by omega)))
            rw [this]
            rfl
          · have c4 : t ≤ (cAt M c).2.2.1 := Nat.le_of_not_lt (fun q => c3 ((nI_ltI (by omega) (by omega)).mpr q))
            have c5 : ¬ (decide (t ≤ (cAt M c).2.2.1) = false ∨ ¬ (cAt M c).1 = at') := fun q => q.elim (fun r => of_decide_eq_false r c4) (fun r => r c2)
            have high : ∀ x12 x14, ((cAt M c).2.2.1 = t ∨ ¬ (cAt M c).2.2.1 ∈ seen) → xRun G m_X9_rings (d + (f + 1 + 3)) 0 0 70 [some (.ref T0), some (.int (nI t)), some (.int (nI at')), some (.int been), some (.int (nI (pS p0))), some (.long (pU M p0)), none, some (.long (pD M p0)), none, some (.int (nI c)), some (.int (nI (16 + 4 * c))), some (.int (nI (cAt M c).2.2.1)), x12, none, x14, none] [] (tw T0 h (sRg s r1)) (xU (tw T0 h (sRg s rE))) := by
              intro x12 x14 hor
              have hcp : ∀ x ∈ p0 ++ [c], x < 10 := by
                intro x hx
                rcases List.mem_append.mp hx with q | q
                · exact hp0 x q
                · rw [List.mem_singleton.mp q]; exact hc10
              have epS : nI (pS p0) ||| sh1 c = nI (pS (p0 ++ [c])) := by rw [sh1_nI c (by omega), nI_or, pS_snoc]
              refine x_lload dX9_rings_70 rfl ?_
              refine x_aload_n dX9_rings_72 rfl ?_
              refine t_ga 448 dX9_rings_73 f_X9_61_27 (by decide) rfl (by decide) ?_
              refine x_iload dX9_rings_76 rfl ?_
              refine x_iconst dX9_rings_78 3 rfl ?_
              refine x_iadd dX9_rings_79 ?_
              refine t_rj (16 + 4 * c + 3) dX9_rings_80 okb j448 hm1 (nI_add _ 3) (by omega) (mr_m hM hcl) ?_
              refine x_i2l dX9_rings_81 ?_
              refine x_lmul dX9_rings_82 ?_
              rw [← pU_snoc]
              refine xsl12 dX9_rings_83 (by decide) rfl ?_
              refine x_lload dX9_rings_85 rfl ?_
              refine x_aload_n dX9_rings_87 rfl ?_
              refine t_ga 448 dX9_rings_88 f_X9_61_27 (by decide) rfl (by decide) ?_
              refine x_iload dX9_rings_91 rfl ?_
              refine x_iconst dX9_rings_93 1 rfl ?_
              refine x_iadd dX9_rings_94 ?_
              refine t_rj (16 + 4 * c + 1) dX9_rings_95 okb j448 hm1 (nI_add _ 1) (by omega) (mr_n hM hcl) ?_
              refine x_at 96 rfl ?_
              refine x_i2l dX9_rings_96 ?_
              refine x_lmul dX9_rings_97 ?_
              rw [← pD_snoc]
              refine xsl14 dX9_rings_98 (by decide) rfl ?_
              refine x_iload dX9_rings_100 rfl ?_
              refine x_iload_n dX9_rings_102 rfl ?_
              refine x_icmp_eq 133 dX9_rings_103 rfl (fun c6 => ?_) (fun c6 => ?_)
              · have c7 : (cAt M c).2.2.1 = t := (nI_eq (by omega) (by omega)).mp c6
                have eg : g c = [[c]] := by
                  show (if _ then _ else if _ then _ else _) = _
                  rw [if_neg c5, if_pos c7]
                have er : rgF M r1 ((g c).map (fun p => p0 ++ p)) = rgS M r1 (p0 ++ [c]) := by rw [eg]; rfl
                have kk := c_keeps (G := G) (d := d + (f + 1 + 2)) (h := h) (s := sRg s r1) (T0 := T0) hb r1.1 (pU M (p0 ++ [c]), pD M (p0 ++ [c]))
                rw [rg_keep, rg_keep] at kk
                refine x_aload_n dX9_rings_133 rfl ?_
                refine x_lload dX9_rings_134 rfl ?_
                refine x_lload dX9_rings_136 rfl ?_
                refine xuV2 dX9_rings_138 v_X9_341_27 tw_get0 (Nat.le_of_ble_eq_true rfl) (kk) ?_
                refine x_lload dX9_rings_141 rfl ?_
                refine x_lload dX9_rings_143 rfl ?_
                refine x_lcmp dX9_rings_145 ?_
                refine x_if_gt 152 dX9_rings_146 rfl (fun c8 => ?_) (fun c8 => ?_)
                · have c9 : pD M (p0 ++ [c]) < pU M (p0 ++ [c]) := (lg_cmp_gt _ _).mp c8
                  refine x_aload_n dX9_rings_152 rfl ?_
                  refine t_ga 472 dX9_rings_153 f_X9_76_27 (by decide) rfl (by decide) ?_
                  refine x_iload dX9_rings_156 rfl ?_
                  refine x_iconst dX9_rings_158 1 rfl ?_
                  refine x_iload dX9_rings_159 rfl ?_
                  refine x_ishl dX9_rings_161 ?_
                  refine x_ior dX9_rings_162 ?_
                  rw [show (1 : Int32) <<< (nI c &&& 31) = sh1 c from rfl, epS]
                  refine x_iconst dX9_rings_163 1 rfl ?_
                  refine t_zs (pS (p0 ++ [c])) (by decide) dX9_rings_164 (sRg_ok hs) rfl (pS_lt hcp) hb ?_
                  have e0 : (sRg s (kp r1.1 (pU M (p0 ++ [c]), pD M (p0 ++ [c])), r1.2)).2.2 472 = fz r1.2.1 := seta_get
                  rw [e0, fz_set (pS_lt hcp)]
                  generalize hs3 : seta (sRg s (kp r1.1 (pU M (p0 ++ [c]), pD M (p0 ++ [c])), r1.2)) 472 (fz (pS (p0 ++ [c]) :: r1.2.1)) = s3
                  have f42 : s3.1 42 = oN r1.2.2 := by rw [← hs3]; rfl
                  have epc : on (nI (pS p0)) + 1 = nI (pL (p0 ++ [c])) := by
                    rw [on_pc _ hpS, nI_1]
                    unfold pL
                    rw [List.dropLast_concat]
                  have lst : ∀ v, v = oN (omin r1.2.2 (pL (p0 ++ [c]))) → xRun G m_X9_rings (d + (f + 1 + 3)) 0 0 198 [some (.ref T0), some (.int (nI t)), some (.int (nI at')), some (.int been), some (.int (nI (pS p0))), some (.long (pU M p0)), none, some (.long (pD M p0)), none, some (.int (nI c)), some (.int (nI (16 + 4 * c))), some (.int (nI (cAt M c).2.2.1)), some (.long (pU M (p0 ++ [c]))), none, some (.long (pD M (p0 ++ [c]))), none] [.int v, .ref T0] (tw T0 h s3) (xU (tw T0 h (sRg s rE))) := by
                    intro v hv
                    subst hv
                    refine t_pi dX9_rings_198 p_X9_356_27 rfl (by decide) hb ?_
                    have e9 : seti s3 42 (oN (omin r1.2.2 (pL (p0 ++ [c])))) = sRg s (rgS M r1 (p0 ++ [c])) := by
                      rw [← hs3, rgS, if_pos c9, if_pos c9]
                      unfold sRg
                      refine Prod.ext ?_ ?_
                      · funext k
                        show (if k = 42 then _ else if k = 42 then _ else _) = (if k = 42 then _ else _)
                        by_cases e : k = 42
                        · rw [if_pos e, if_pos e]
                        · rw [if_neg e, if_neg e, if_neg e]
                          rfl
                      · show (seta (seta _ 472 _) 472 _).2 = _
                        rw [seta_seta]
                        rfl
                    rw [e9]
                    exact nx _ _ _ er.symm
                  cases hr1 : r1.2.2 with
                  | none =>
                    rw [hr1] at f42 lst
                    refine x_aload_n dX9_rings_165 rfl ?_
                    refine x_aload_n dX9_rings_166 rfl ?_
                    refine t_gi dX9_rings_167 f_X9_356_27 (by decide) rfl (by decide) f42 ?_
                    refine x_iconst dX9_rings_170 (-1) rfl ?_
                    refine x_icmp_ne 184 dX9_rings_171 rfl (fun hc9 => absurd (rfl) hc9) (fun _ => ?_)
                    refine x_iload dX9_rings_174 rfl ?_
                    refine xiS1 dX9_rings_176 s_X9_260 (Nat.le_of_ble_eq_true rfl) (c_ones _) ?_
                    refine x_iconst dX9_rings_179 1 rfl ?_
                    refine x_iadd dX9_rings_180 ?_
                    rw [epc]
                    refine x_goto 198 dX9_rings_181 rfl ?_
                    exact lst _ rfl
                  | some q =>
                    rw [hr1] at f42 lst
                    have hq11 : q ≤ 11 := hr1B q hr1
                    have hk11 : pL (p0 ++ [c]) ≤ 11 := by unfold pL; have := pc_le10 (pS (p0 ++ [c]).dropLast); omega
                    refine x_aload_n dX9_rings_165 rfl ?_
                    refine x_aload_n dX9_rings_166 rfl ?_
                    refine t_gi dX9_rings_167 f_X9_356_27 (by decide) rfl (by decide) f42 ?_
                    refine x_iconst dX9_rings_170 (-1) rfl ?_
                    refine x_icmp_ne 184 dX9_rings_171 rfl (fun _ => ?_) (fun hc9 => absurd hc9 (oN_ne (by omega)))
                    refine x_aload_n dX9_rings_184 rfl ?_
                    refine t_gi dX9_rings_185 f_X9_356_27 (by decide) rfl (by decide) f42 ?_
                    refine x_iload dX9_rings_188 rfl ?_
                    refine x_at 190 rfl ?_
                    refine xiS1 dX9_rings_190 s_X9_260 (Nat.le_of_ble_eq_true rfl) (c_ones _) ?_
                    refine x_iconst dX9_rings_193 1 rfl ?_
                    refine x_iadd dX9_rings_194 ?_
                    rw [epc]
                    refine xiS2 dX9_rings_195 s_X9_235 (Nat.le_of_ble_eq_true rfl) (c_less _ _) ?_
                    refine lst _ ?_
                    show mn (nI q) (nI _) = nI (if q < _ then q else _)
                    unfold mn
                    by_cases e : q < pL (p0 ++ [c])
                    · rw [if_pos e, if_pos ((nI_ltI (by omega) (by omega)).mpr e)]
                    · rw [if_neg e, if_neg (fun z => e ((nI_ltI (by omega) (by omega)).mp z))]
                · have c9 : ¬ pD M (p0 ++ [c]) < pU M (p0 ++ [c]) := fun q => c8 ((lg_cmp_gt _ _).mpr q)
                  refine x_goto 201 dX9_rings_149 rfl ?_
                  refine nx _ _ _ ?_
                  rw [er, rgS, if_neg c9, if_neg c9]
              · have c7 : ¬ (cAt M c).2.2.1 = t := fun q => c6 (by rw [q])
                have c8 := hor.resolve_left c7
                refine x_aload_n dX9_rings_106 rfl ?_
                refine x_iload_n dX9_rings_107 rfl ?_
                refine x_iload dX9_rings_108 rfl ?_
                refine x_iload_n dX9_rings_110 rfl ?_
                refine x_iconst dX9_rings_111 1 rfl ?_
                refine x_iload dX9_rings_112 rfl ?_
                refine x_ishl dX9_rings_114 ?_
                refine x_ior dX9_rings_115 ?_
                refine x_at 116 rfl ?_
                refine x_iload dX9_rings_116 rfl ?_
                refine x_iconst dX9_rings_118 1 rfl ?_
                refine x_iload dX9_rings_119 rfl ?_
                refine x_ishl dX9_rings_121 ?_
                refine x_ior dX9_rings_122 ?_
                rw [show (1 : Int32) <<< (nI c &&& 31) = sh1 c from rfl, epS]
                refine x_lload dX9_rings_123 rfl ?_
                refine x_lload dX9_rings_125 rfl ?_
                refine xuV6 dX9_rings_127 v_X9_352_27 tw_get0 (Nat.le_of_ble_eq_true rfl) (ih (p0 ++ [c]) _ _ ((cAt M c).2.2.1 :: seen) r1 hr1B hcp hq.2.2.1 (hk.cons hq.2.2.1 c8) (List.mem_cons_of_mem _ hts) (by show 9 ≤ seen.length + 1 + f; omega)) ?_
                refine x_goto 201 dX9_rings_130 rfl ?_
                refine nx _ _ _ ?_
                have eg : g c = (pth (fun c => decide (t ≤ (cAt M c).2.2.1)) M t f (cAt M c).2.2.1 ((cAt M c).2.2.1 :: seen)).map (fun p => c :: p) := by
                  show (if _ then _ else if _ then _ else if _ then _ else _) = _
                  rw [if_neg c5, if_neg c7, if_neg c8]
                rw [eg, List.map_map]
                congr 1
                apply List.map_congr_left
                intro p _
                simp
            refine x_iload dX9_rings_52 rfl ?_
            refine x_iload_n dX9_rings_54 rfl ?_
            refine x_icmp_eq 70 dX9_rings_55 rfl (fun c6 => ?_) (fun c6 => ?_)
            · exact high _ _ (Or.inl ((nI_eq (by omega) (by omega)).mp c6))
            · have c7 : ¬ (cAt M c).2.2.1 = t := fun q => c6 (by rw [q])
              refine x_iload_n dX9_rings_58 rfl ?_
              refine x_iload dX9_rings_59 rfl ?_
              refine xiS2 dX9_rings_61 s_X9_345 (Nat.le_of_ble_eq_true rfl) (c_has _ _) ?_
              refine x_if_eq 70 dX9_rings_64 rfl (fun c8 => ?_) (fun c8 => ?_)
              · refine high _ _ (Or.inr ?_)
                have := b2_eq.mp c8
                rw [hk.1 _ hq.2.2.1] at this
                exact of_decide_eq_false this
              · have c9 : (cAt M c).2.2.1 ∈ seen := by
                  have := b2_ne.mp c8
                  rw [hk.1 _ hq.2.2.1] at this
                  exact of_decide_eq_true this
                refine x_goto 201 dX9_rings_67 rfl ?_
                refine nx r1 _ _ ?_
                have eg : g c = [] := by
                  show (if _ then _ else if _ then _ else if _ then _ else _) = _
                  rw [if_neg c5, if_neg c7, if_pos c9]
                rw [eg]
                rfl
    exact main _ 0 (Nat.zero_add _) _ _ _ _ hE
end TG
