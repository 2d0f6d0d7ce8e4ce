def HV (E : AEnv) (V : PBs) (s : Nat → Int32) : Prop :=
  V.1 = nI (e_lim E) ∧ SR V.2.2.2.2.2.2.2.2.2.2.1 s (e_L E) ∧
  (∀ pc, o_ E pc ≤ 16 → pc < r_opN V.2.2.2.2.2.2.2.2.2.2.2.1 ∧ pc < r_xN V.2.2.2.2.2.2.2.2.2.2.2.1 ∧ pc < r_yN V.2.2.2.2.2.2.2.2.2.2.2.1 ∧ r_opF V.2.2.2.2.2.2.2.2.2.2.2.1 pc = some (o_ E pc) ∧ r_xF V.2.2.2.2.2.2.2.2.2.2.2.1 pc = nI (x_ E pc) ∧ r_yF V.2.2.2.2.2.2.2.2.2.2.2.1 pc = nI (y_ E pc)) ∧
  r_opN V.2.2.2.2.2.2.2.2.2.2.2.1 < 2 ^ 31 ∧ r_xN V.2.2.2.2.2.2.2.2.2.2.2.1 < 2 ^ 31 ∧ r_yN V.2.2.2.2.2.2.2.2.2.2.2.1 < 2 ^ 31 ∧
  (∀ g, g ≤ 4 → r_en V.2.2.2.2.2.2.2.2.2.2.2.1 g = nI (e_en E g)) ∧ e_pP E = plP s (e_L E) ∧ e_L E ≤ 40 ∧ e_lim E ≤ 300 ∧ (∀ pc, o_ E pc = 3 → 1 ≤ x_ E pc ∧ x_ E pc ≤ 4)
def PR (V : PBs) : PMt → PS → Prop
  | (pc, p, M, T, cF, fF, d, st), u => PX V p M T cF fF d st u ∧ mxM T M.length ≤ p_kN u ∧ p_pc u = nI pc
section PO
variable {E : AEnv} {V : PBs} {s : Nat → Int32} {pc p : Nat} {M : List Nat} {T : List PEn} {cF fF : ACp} {d st : Nat} {u : PS}
theorem V_lim (hV : HV E V s) (h : PX V p M T cF fF d st u) : p_limit u = nI (e_lim E) := (congrArg (fun b : PBs => b.1) h.1).trans hV.1
theorem V_su (hV : HV E V s) (h : PX V p M T cF fF d st u) : SR (p_su u) s (e_L E) := by
  have e : p_su u = V.2.2.2.2.2.2.2.2.2.2.1 := congrArg (fun b : PBs => b.2.2.2.2.2.2.2.2.2.2.1) h.1
  rw [e]; exact hV.2.1
theorem V_pr (h : PX V p M T cF fF d st u) : p_pr u = V.2.2.2.2.2.2.2.2.2.2.2.1 := congrArg (fun b : PBs => b.2.2.2.2.2.2.2.2.2.2.2.1) h.1
theorem one_at (hV : HV E V s) (h : PR V (pc, p, M, T, cF, fF, d, st) u) (ho : o_ E pc ≤ 16) : ∃ v, PX V p M T cF fF d st v ∧ p_pc v = nI (pc + 1) ∧ p_tN v = p_tN u ∧ p_kN v = p_kN u ∧ ∀ (Q : Int32 → PS → Prop) (bc bs : Nat), OB Q bc bs (nI (x_ E pc)) (nI (y_ E pc)) (nI (o_ E pc)) v → P_B_one bc bs u Q := by
  obtain ⟨hX, hm, hpc⟩ := h
  obtain ⟨c1, c2, c3, c4, c5, c6⟩ := hV.2.2.1 pc ho
  have n1 := hV.2.2.2.1
  have n2 := hV.2.2.2.2.1
  have n3 := hV.2.2.2.2.2.1
  have epr := V_pr hX
  rw [← epr] at c1 c2 c3 c4 c5 c6 n1 n2 n3
  have hx : p_pc u + 1 = nI (pc + 1) := by rw [hpc, n_1]
  have key : ∀ (x : Int32), x = nI (pc + 1) → PX V p M T cF fF d st (ps_pc u x) ∧ p_pc (ps_pc u x) = nI (pc + 1) ∧ p_tN (ps_pc u x) = p_tN u ∧ p_kN (ps_pc u x) = p_kN u := fun x hx => ⟨PX_pc hX, hx, rfl, rfl⟩
  obtain ⟨k1, k2, k3, k4⟩ := key _ hx
  refine ⟨ps_pc u (p_pc u + 1), k1, k2, k3, k4, fun Q bc bs hO => ?_⟩
  refine one_unf (by rw [hpc]; exact vp_in_nI c2 n2) (by rw [hpc]; exact vp_in_nI c3 n3) (by rw [hpc]; exact vp_in_nI c1 n1) (by rw [hpc, nI_clamp (by omega)]; exact c5) (by rw [hpc, nI_clamp (by omega)]; exact c6) (by omega) (by rw [hpc, nI_clamp (by omega)]; exact c4) hO
def WE (u u1 : PS) (h m : Nat) : Prop := p_tN u1 = gr1 (p_tN u) h ∧ p_kN u1 = gr1 (p_kN u) m
def OKg (V : PBs) (u : PS) (π1 : PMt) (h m : Nat) : Prop := h ≤ 140000 ∧ m ≤ 16000 ∧ ∀ Q : Int32 → PS → Prop, (∀ u1, PR V π1 u1 → WE u u1 h m → Q 1 u1) → P_B_one ((gr1 (p_kN u) m - p_kN u) + (gr1 (p_tN u) h - p_tN u)) (2 * ((gr1 (p_kN u) m - p_kN u) + (gr1 (p_tN u) h - p_tN u))) u Q
def NOg (V : PBs) (u : PS) (π1 : PMt) (h m : Nat) : Prop := h ≤ 140000 ∧ m ≤ 16000 ∧ ∀ Q : Int32 → PS → Prop, (∀ u1, PR V π1 u1 → WE u u1 h m → Q 0 u1) → P_B_one ((gr1 (p_kN u) m - p_kN u) + (gr1 (p_tN u) h - p_tN u)) (2 * ((gr1 (p_kN u) m - p_kN u) + (gr1 (p_tN u) h - p_tN u))) u Q
theorem gr1_le {c h b : Nat} (h1 : c ≤ b) (h2 : 2 * h ≤ b) : gr1 c h ≤ b := by unfold gr1; split <;> omega
theorem WB {m h : Nat} (hX : PX V p M T cF fF d st u) (hm : m ≤ 16000) (hh : h ≤ 140000) : Wt u + ((gr1 (p_kN u) m - p_kN u) + (gr1 (p_tN u) h - p_tN u)) ≤ 312000 := by
  have h1 := PX_kN hX
  have h2 := PX_tN hX
  have h3 := gr1_le (c := p_kN u) (h := m) (b := 32000) (by omega) (by omega)
  have h4 := gr1_le (c := p_tN u) (h := h) (b := 280000) (by omega) (by omega)
  have h5 := gr1_ge (p_kN u) m
  have h6 := gr1_ge (p_tN u) h
  unfold Wt; omega
theorem WE0 {u1 : PS} (hX : PX V p M T cF fF d st u) (h1 : p_tN u1 = p_tN u) (h2 : p_kN u1 = p_kN u) : WE u u1 (3 * T.length) M.length := by
  have h3 := PX_tN hX
  have h4 : M.length ≤ p_kN u := hX.2.2.2.2.2.2.2.2.2.2.2.1
  exact ⟨by rw [gr1_id h3.2.2]; exact h1, by rw [gr1_id h4]; exact h2⟩
theorem Wt_eq {u1 : PS} (h1 : p_tN u1 = p_tN u) (h2 : p_kN u1 = p_kN u) : Wt u1 = Wt u := by unfold Wt; rw [h1, h2]
theorem Wt_gr {u1 : PS} {h m : Nat} (h1 : p_tN u1 = gr1 (p_tN u) h) (h2 : p_kN u1 = gr1 (p_kN u) m) : WE u u1 h m := ⟨h1, h2⟩
theorem ok_plain (hV : HV E V s) (h : PR V (pc, p, M, T, cF, fF, d, st) u) (hok : okP E (pc, p, M, T, cF, fF, d, st)) (ho : o_ E pc ≤ 3) (hst : st < e_lim E) : (∀ p', e_pP E (o_ E pc) (x_ E pc) p cF = some p' → OKg V u (pc + 1, p', M, T, cF, fF, d, st + 1) (3 * T.length) M.length) ∧ (e_pP E (o_ E pc) (x_ E pc) p cF = none → NOg V u (pc + 1, p, M, T, cF, fF, d, st + 1) (3 * T.length) M.length) := by
  obtain ⟨v, v1, v2, v3, v4, hO⟩ := one_at hV h (by omega)
  have hm := h.2.1
  have hL := hV.2.2.2.2.2.2.2.2.1
  have hl := hV.2.2.2.2.2.2.2.2.2.1
  have hpL : p ≤ e_L E := hok.2.2.2.1
  have hcg := hok.2.2.2.2.2.1.2
  rw [hV.2.2.2.2.2.2.2.1]
  have fin : ∀ {u1 : PS} {p' : Nat}, PX V p' M T cF fF d (st + 1) u1 → p_pc u1 = p_pc v → p_tN u1 = p_tN v → p_kN u1 = p_kN v → PR V (pc + 1, p', M, T, cF, fF, d, st + 1) u1 ∧ WE u u1 (3 * T.length) M.length := by
    intro u1 p' g1 g2 g3 g4
    exact ⟨⟨g1, by rw [g4, v4]; exact hm, g2.trans v2⟩, WE0 h.1 (g3.trans v3) (g4.trans v4)⟩
  have hcs : o_ E pc = 0 ∨ o_ E pc = 1 ∨ o_ E pc = 2 ∨ o_ E pc = 3 := by omega
  unfold plP
  rcases hcs with e | e | e | e
  · rw [e] at hO
    rw [if_pos e]
    refine ⟨fun p' hp' => ⟨by have : T.length ≤ 46200 := hok.1; omega, by have : M.length ≤ 14000 := hok.2.1; omega, fun Q hQ => hO Q _ _ (one_0 (s_step v1 (V_lim hV v1) hl hst (fun u1 g1 g2 g3 g4 => ⟨fun z => absurd z (by decide), fun _ => s_letters (V_su hV g1) g1 hpL hL (fun z => ⟨fun w => absurd w (by decide), fun _ => ?_⟩) (fun z => ?_)⟩)))⟩, fun hp' => ⟨by have : T.length ≤ 46200 := hok.1; omega, by have : M.length ≤ 14000 := hok.2.1; omega, fun Q hQ => hO Q _ _ (one_0 (s_step v1 (V_lim hV v1) hl hst (fun u1 g1 g2 g3 g4 => ⟨fun z => absurd z (by decide), fun _ => s_letters (V_su hV g1) g1 hpL hL (fun z => ?_) (fun z => ⟨fun _ => ?_, fun w => absurd rfl w⟩)⟩)))⟩⟩
    · rw [if_pos z] at hp'; cases hp'
      exact hQ _ (fin (PX_place rfl g1) g2 g3 g4).1 (fin (PX_place rfl g1) g2 g3 g4).2
    · rw [if_neg z] at hp'; cases hp'
    · rw [if_pos z] at hp'; cases hp'
    · exact hQ _ (fin g1 g2 g3 g4).1 (fin g1 g2 g3 g4).2
  · rw [e] at hO
    rw [if_neg (by omega), if_pos e]
    refine ⟨fun p' hp' => ⟨by have : T.length ≤ 46200 := hok.1; omega, by have : M.length ≤ 14000 := hok.2.1; omega, fun Q hQ => hO Q _ _ (one_1 (s_step v1 (V_lim hV v1) hl hst (fun u1 g1 g2 g3 g4 => ⟨fun z => absurd z (by decide), fun _ => ?_⟩)))⟩, fun hp' => ⟨by have : T.length ≤ 46200 := hok.1; omega, by have : M.length ≤ 14000 := hok.2.1; omega, fun Q hQ => hO Q _ _ (one_1 (s_step v1 (V_lim hV v1) hl hst (fun u1 g1 g2 g3 g4 => ⟨fun z => absurd z (by decide), fun _ => ?_⟩)))⟩⟩
    · have g : p_place u1 = nI p := g1.2.2.1
      rw [g]
      refine ⟨fun z => ?_, fun z => ?_⟩
      · have z : p = 0 := (neq (b := 0) (by omega) (by decide)).mp z
        rw [if_pos z] at hp'; cases hp'
        exact hQ _ (fin g1 g2 g3 g4).1 (fin g1 g2 g3 g4).2
      · rw [if_neg (fun w => z (by rw [w]; rfl))] at hp'; cases hp'
    · have g : p_place u1 = nI p := g1.2.2.1
      rw [g]
      refine ⟨fun z => ?_, fun z => ?_⟩
      · have z : p = 0 := (neq (b := 0) (by omega) (by decide)).mp z
        rw [if_pos z] at hp'; cases hp'
      · exact hQ _ (fin g1 g2 g3 g4).1 (fin g1 g2 g3 g4).2
  · rw [e] at hO
    rw [if_neg (by omega), if_neg (by omega), if_pos e]
    refine ⟨fun p' hp' => ⟨by have : T.length ≤ 46200 := hok.1; omega, by have : M.length ≤ 14000 := hok.2.1; omega, fun Q hQ => hO Q _ _ (one_2 (s_step v1 (V_lim hV v1) hl hst (fun u1 g1 g2 g3 g4 => ⟨fun z => absurd z (by decide), fun _ => s_len (V_su hV g1) ?_⟩)))⟩, fun hp' => ⟨by have : T.length ≤ 46200 := hok.1; omega, by have : M.length ≤ 14000 := hok.2.1; omega, fun Q hQ => hO Q _ _ (one_2 (s_step v1 (V_lim hV v1) hl hst (fun u1 g1 g2 g3 g4 => ⟨fun z => absurd z (by decide), fun _ => s_len (V_su hV g1) ?_⟩)))⟩⟩
    · have g : p_place u1 = nI p := g1.2.2.1
      rw [g, su_eta]
      refine ⟨fun z => ?_, fun z => ?_⟩
      · have z : p = e_L E := (neq (by omega) (by omega)).mp z
        rw [if_pos z] at hp'; cases hp'
        exact hQ _ (fin g1 g2 g3 g4).1 (fin g1 g2 g3 g4).2
      · rw [if_neg (fun w => z (by rw [w]))] at hp'; cases hp'
    · have g : p_place u1 = nI p := g1.2.2.1
      rw [g, su_eta]
      refine ⟨fun z => ?_, fun z => ?_⟩
      · have z : p = e_L E := (neq (by omega) (by omega)).mp z
        rw [if_pos z] at hp'; cases hp'
      · exact hQ _ (fin g1 g2 g3 g4).1 (fin g1 g2 g3 g4).2
  · rw [e] at hO
    rw [if_neg (by omega), if_neg (by omega), if_neg (by omega)]
    obtain ⟨x1, x4⟩ := hV.2.2.2.2.2.2.2.2.2.2 pc e
    have hcx := hcg (x_ E pc) x1 x4
    refine ⟨fun p' hp' => ⟨by have : T.length ≤ 46200 := hok.1; omega, by have : M.length ≤ 14000 := hok.2.1; omega, fun Q hQ => hO Q _ _ (one_3 (s_step v1 (V_lim hV v1) hl hst (fun u1 g1 g2 g3 g4 => ⟨fun z => absurd z (by decide), fun _ => s_reference (V_su hV g1) g1 hpL hL x1 x4 hcx (fun p2 z => ⟨fun w => absurd w (by decide), fun _ => ?_⟩) (fun z => ?_)⟩)))⟩, fun hp' => ⟨by have : T.length ≤ 46200 := hok.1; omega, by have : M.length ≤ 14000 := hok.2.1; omega, fun Q hQ => hO Q _ _ (one_3 (s_step v1 (V_lim hV v1) hl hst (fun u1 g1 g2 g3 g4 => ⟨fun z => absurd z (by decide), fun _ => s_reference (V_su hV g1) g1 hpL hL x1 x4 hcx (fun p2 z => ?_) (fun z => ⟨fun _ => ?_, fun w => absurd rfl w⟩)⟩)))⟩⟩
    · rw [z] at hp'; cases hp'
      exact hQ _ (fin (PX_place rfl g1) g2 g3 g4).1 (fin (PX_place rfl g1) g2 g3 g4).2
    · rw [z] at hp'; cases hp'
    · rw [z] at hp'; cases hp'
    · exact hQ _ (fin g1 g2 g3 g4).1 (fin g1 g2 g3 g4).2
theorem ok_step (hV : HV E V s) (h : PR V (pc, p, M, T, cF, fF, d, st) u) (hok : okP E (pc, p, M, T, cF, fF, d, st)) (ho : o_ E pc = 5) (hst : st < e_lim E) : OKg V u (pc + 1, p, M, T, cF, fF, d, st + 1) (3 * T.length) M.length := by
  obtain ⟨v, v1, v2, v3, v4, hO⟩ := one_at hV h (by omega)
  have hm := h.2.1
  have hl := hV.2.2.2.2.2.2.2.2.2.1
  rw [ho] at hO
  exact ⟨by have : T.length ≤ 46200 := hok.1; omega, by have : M.length ≤ 14000 := hok.2.1; omega, fun Q hQ => hO Q _ _ (one_5 (s_step v1 (V_lim hV v1) hl hst (fun u1 g1 g2 g3 g4 => ⟨Or.inr rfl, hQ u1 ⟨g1, by rw [g4, v4]; exact hm, g2.trans v2⟩ (WE0 h.1 (g3.trans v3) (g4.trans v4))⟩)))⟩
theorem ok_push (hV : HV E V s) (h : PR V (pc, p, M, T, cF, fF, d, st) u) (hok : okP E (pc, p, M, T, cF, fF, d, st)) (ho : o_ E pc = 6 ∨ o_ E pc = 10) : OKg V u (pc + 1, p, p :: M, (1, 0, 0, 0) :: T, cF, fF, d, st) (3 * (T.length + 1)) (M.length + 1) := by
  obtain ⟨v, v1, v2, v3, v4, hO⟩ := one_at hV h (by omega)
  have hm := h.2.1
  have hT : T.length ≤ 46200 := hok.1
  have hM : M.length ≤ 14000 := hok.2.1
  have hpl : p_place v = nI p := v1.2.2.1
  refine ⟨by omega, by omega, fun Q hQ => ?_⟩
  have hB : B_B_one_247 Q ((gr1 (p_kN u) (M.length + 1) - p_kN u) + (gr1 (p_tN u) (3 * (T.length + 1)) - p_tN u)) (2 * ((gr1 (p_kN u) (M.length + 1) - p_kN u) + (gr1 (p_tN u) (3 * (T.length + 1)) - p_tN u))) 0 0 v := by
    unfold B_B_one_247
    rw [hpl]
    refine ⟨_, _, ?_, ?_, s_pushP v1 (by rw [v4]; exact hm) (by omega) (by omega) (fun u1 g1 g2 g3 g4 g5 => hQ u1 ⟨g1, g2, g3.trans v2⟩ (Wt_gr (by rw [g4, v3]) (by rw [g5, v4])))⟩
    · rw [v3, v4]; omega
    · rw [v3, v4]; omega
  rcases ho with e | e
  · rw [e] at hO; exact hO Q _ _ (one_6 hB)
  · rw [e] at hO; exact hO Q _ _ (one_10 hB)
theorem ok_split (hV : HV E V s) (h : PR V (pc, p, M, T, cF, fF, d, st) u) (hok : okP E (pc, p, M, T, cF, fF, d, st)) (ho : o_ E pc = 8) : OKg V u (x_ E pc, p, M, (0, y_ E pc, p, 0) :: T, cF, fF, d, st) (3 * (T.length + 1)) M.length := by
  obtain ⟨v, v1, v2, v3, v4, hO⟩ := one_at hV h (by omega)
  have hm := h.2.1
  have hT : T.length ≤ 46200 := hok.1
  have hpl : p_place v = nI p := v1.2.2.1
  have hl : M.length ≤ p_kN u := by have := v1.2.2.2.2.2.2.2.2.2.2.2.1; omega
  have hM : M.length ≤ 14000 := hok.2.1
  rw [ho] at hO
  refine ⟨by omega, by omega, fun Q hQ => hO Q _ _ (one_8 ?_)⟩
  rw [hpl]
  refine ⟨_, _, ?_, ?_, s_log 0 (y_ E pc) p 0 (by decide) v1 (by omega) (fun u1 g1 g2 g3 g4 g5 => hQ _ ⟨PX_pc g1, ?_, rfl⟩ ?_)⟩
  · rw [v3]; omega
  · rw [v3]; omega
  · show _ ≤ p_kN u1
    rw [mxM_34 (by decide) (by decide), g3, v4]; exact hm
  · exact Wt_gr (u := u) (u1 := u1) (by rw [g5, v3]) (by rw [g3, v4, gr1_id hl])
theorem ok_go (hV : HV E V s) (h : PR V (pc, p, M, T, cF, fF, d, st) u) (hok : okP E (pc, p, M, T, cF, fF, d, st)) (ho : o_ E pc = 9) : OKg V u (x_ E pc, p, M, T, cF, fF, d, st) (3 * T.length) M.length := by
  obtain ⟨v, v1, v2, v3, v4, hO⟩ := one_at hV h (by omega)
  have hm := h.2.1
  rw [ho] at hO
  refine ⟨by have : T.length ≤ 46200 := hok.1; omega, by have : M.length ≤ 14000 := hok.2.1; omega, fun Q hQ => hO Q _ _ (one_9 (hQ _ ⟨PX_pc v1, ?_, rfl⟩ ?_))⟩
  · show _ ≤ p_kN v
    rw [v4]; exact hm
  · exact WE0 (u1 := v) h.1 v3 v4
theorem ok_moved (hV : HV E V s) {m : Nat} (h : PR V (pc, p, m :: M, T, cF, fF, d, st) u) (hok : okP E (pc, p, m :: M, T, cF, fF, d, st)) (ho : o_ E pc = 11) : OKg V u (if m = p then pc + 1 else x_ E pc, p, M, (2, m, 0, 0) :: T, cF, fF, d, st) (3 * (T.length + 1)) M.length := by
  obtain ⟨v, v1, v2, v3, v4, hO⟩ := one_at hV h (by omega)
  have hm : mxM T (M.length + 1) ≤ p_kN u := h.2.1
  have hT : T.length ≤ 46200 := hok.1
  have hmv : m ≤ 500000 := hok.2.2.1 m (List.mem_cons_self ..)
  have hM : M.length + 1 ≤ 14000 := hok.2.1
  have hpL : p ≤ e_L E := hok.2.2.2.1
  have hL := hV.2.2.2.2.2.2.2.2.1
  have hl : M.length + 1 ≤ p_kN u := by have : M.length + 1 ≤ p_kN v := v1.2.2.2.2.2.2.2.2.2.2.2.1; omega
  rw [ho] at hO
  refine ⟨by omega, by omega, fun Q hQ => hO Q _ _ (one_11 ?_)⟩
  refine ⟨_, _, ?_, ?_, s_pop v1 (by rw [v4]; exact hm) (by omega) (fun u1 g1 g2 g3 g4 g5 => ?_)⟩
  · rw [v3]; omega
  · rw [v3]; omega
  · have hpl : p_place u1 = nI p := g1.2.2.1
    rw [hpl]
    have hw : WE u u1 (3 * (T.length + 1)) M.length := Wt_gr (by rw [g4, v3]) (by rw [g5, v4, gr1_id (by omega)])
    refine ⟨fun z => ?_, fun z => ?_⟩
    · rw [neq (by omega) (by omega)] at z
      rw [if_pos z] at hQ
      exact hQ u1 ⟨g1, g2, g3.trans v2⟩ hw
    · rw [neq (by omega) (by omega)] at z
      rw [if_neg z] at hQ
      exact hQ (ps_pc u1 (nI (x_ E pc))) ⟨PX_pc g1, g2, rfl⟩ hw
end PO
