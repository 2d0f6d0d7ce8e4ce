section MW
variable {W : MBs} {τ : Nat → Int32} {n : Nat} {s : Nat → Int32} {L lim : Nat} {C : Nat → Nat × Nat × Nat} {en : Nat → Nat} {PL : Nat → Nat → Nat → Prop} {pP : Nat → Nat → Nat → ACp → Option Nat} {G : Nat} {E : AEnv}
theorem m_turn {Q : Int32 → MS → Prop} {K29 : Int32 → MS → Prop} {x mo i p st nf nb ns : Nat} {c : ACp} {B : List ABk} {K : List AFr} {u : MS} (hE : E = eM τ n s L lim C en PL pP G) (hW : HW W τ n s L lim) (hT : TXok τ n) (hok : okA E (mo, i, K, p, c, B, st, nf, nb, ns)) (hokn : okA E (aTurn E (mo, i, K, p, c, B, st, nf, nb, ns))) (hlim : mo = 2 → st ≠ lim) (hK5 : mo = 5 → K ≠ []) (hMR : MR W (mo, i, K, p, c, B, st, nf, nb, ns) u) (hne : mo ≠ 6) (hQ : ∀ u1, MR W (aTurn E (mo, i, K, p, c, B, st, nf, nb, ns)) u1 → K29 (nI (x + 1)) u1) : B_M_walk_91 Q K29 (nI x) u := by
  obtain ⟨hX, hmo, hrest⟩ := hMR
  obtain ⟨hat, k, hmk, hk⟩ := hrest hne
  obtain ⟨ho1, hoB, hBOK, hop, host, hom, ho9⟩ := hok
  obtain ⟨ho2, ho3, ho4, ho5, ho6⟩ := ho1 hne
  have hn : n ≤ 32 := hW.2.2.2.2.2.1
  have hL : L ≤ 40 := hW.2.2.2.2.2.2.1
  have hl : lim ≤ 300 := hW.2.2.2.2.2.2.2
  have eL : e_L E = L := by subst hE; rfl
  have en' : e_n E = n := by subst hE; rfl
  have el : e_lim E = lim := by subst hE; rfl
  rw [eL] at hop ho6 hBOK
  rw [en'] at ho3
  rw [el] at host
  have hgo : ∀ u1, MR W (aTurn E (mo, i, K, p, c, B, st, nf, nb, ns)) u1 → B_M_walk_240 Q K29 (nI x) u1 := by
    intro u1 h1 x2 hx2
    rw [hx2, n_1]; exact hQ u1 h1
  intro y hy
  rw [hy, hmo]
  have hcs : mo = 0 ∨ mo = 1 ∨ mo = 2 ∨ mo = 3 ∨ mo = 4 ∨ mo = 5 := by omega
  have dec : ∀ {a b : Nat} {P : Prop}, a ≠ b → a < 2 ^ 31 → b < 2 ^ 31 → nI a = nI b → P := fun h1 h2 h3 h4 => absurd ((neq h2 h3).mp h4) h1
  rcases hcs with e | e | e | e | e | e
  · subst e
    refine ⟨fun _ => ?_, fun e => absurd e (by decide), fun e => absurd e (by decide), fun e => absurd e (by decide), fun e => absurd e (by decide), fun e => absurd e (by decide), fun e => absurd rfl e⟩
    rw [hat]
    refine s_rowEnds (W_len hW hX.1) hn (by omega) ?_
    rw [W_text hW hX.1]
    have hre : e_rE E i = rEnd τ n i := by subst hE; rfl
    rw [aT0, hre] at hgo
    cases hr : rEnd τ n i with
    | true =>
      rw [hr, if_pos rfl] at hgo
      refine ⟨fun e => absurd e (by decide), fun _ => ?_⟩
      rw [hmk]
      exact x_go (mo := 5) (i := 0) hX hk hgo
    | false =>
      rw [hr, if_neg (by decide)] at hgo
      refine ⟨fun _ => ?_, fun e => absurd rfl e⟩
      have hin : i < n := by
        unfold rEnd at hr
        by_cases z : n ≤ i
        · rw [decide_eq_true z] at hr; exact absurd hr (by simp)
        · omega
      rw [hat]
      exact x_item hE hW hT hX hk hmk hin (by omega) (by omega) (by omega) hgo
  · subst e
    refine ⟨fun e => absurd e (by decide), fun _ => ?_, fun e => absurd e (by decide), fun e => absurd e (by decide), fun e => absurd e (by decide), fun e => absurd e (by decide), fun _ e => absurd rfl e⟩
    rw [hat]
    refine s_nextRow (W_len hW hX.1) hn (by omega) ?_
    rw [W_text hW hX.1]
    have hnr : e_nr E i = nextRow τ n i := by subst hE; rfl
    have ht : aTurn E (1, i, K, p, c, B, st, nf, nb, ns) = (match e_nr E i with
      | some r => (0, i, K, p, c, (1, r, p, K, c, 0, nf, nb, ns) :: B, st, nf, nb + 1, ns)
      | none => (0, i, K, p, c, B, st, nf, nb, ns)) := rfl
    rw [ht, hnr] at hgo hokn
    cases hr : nextRow τ n i with
    | none =>
      rw [hr] at hgo
      refine ⟨fun _ => ?_, fun e => absurd (by decide) e⟩
      unfold B_M_walk_190
      rw [hat, hmk]
      exact x_go (mo := 0) hX hk hgo
    | some r =>
      rw [hr] at hgo hokn
      have hr40 : r ≤ 40 := hokn.2.2.1.2.1
      refine ⟨fun e => absurd e (nI_pos (by omega)), fun _ => ?_⟩
      rw [hmk]
      refine x_pushB (mo := 1) (i := r) (fl := 0) (nb := nb) (ns := ns) hX hk (by omega) (by omega) (by decide) (by omega) (by omega) (fun u1 g1 g2 g3 g4 => ?_)
      unfold B_M_walk_190
      rw [g4, g3, hat, hmk]
      exact x_go (mo := 0) g1 (g2 _ _ hk) hgo
  · subst e
    refine ⟨fun e => absurd e (by decide), fun e => absurd e (by decide), fun _ => ?_, fun e => absurd e (by decide), fun e => absurd e (by decide), fun e => absurd e (by decide), fun _ _ e => absurd rfl e⟩
    have := hlim rfl
    exact x_atom hE hW hT hX hk hmk hat (by omega) ho3 hop ho6 (by omega) (by omega) hgo
  · subst e
    refine ⟨fun e => absurd e (by decide), fun e => absurd e (by decide), fun e => absurd e (by decide), fun _ => ?_, fun e => absurd e (by decide), fun e => absurd e (by decide), fun _ _ _ e => absurd rfl e⟩
    unfold B_M_walk_213
    rw [hmo]
    refine ⟨fun e => absurd e (by decide), fun _ => ?_⟩
    exact x_star0 hX hk hmk hat (by omega) (by omega) (by omega) (by omega) hgo
  · subst e
    refine ⟨fun e => absurd e (by decide), fun e => absurd e (by decide), fun e => absurd e (by decide), fun e => absurd e (by decide), fun _ => ?_, fun e => absurd e (by decide), fun _ _ _ _ e => absurd rfl e⟩
    unfold B_M_walk_213
    rw [hmo]
    refine ⟨fun _ => ?_, fun e => absurd rfl e⟩
    exact x_star1 hX hk hmk hat (by omega) (by omega) (by omega) (by omega) hgo
  · subst e
    refine ⟨fun e => absurd e (by decide), fun e => absurd e (by decide), fun e => absurd e (by decide), fun e => absurd e (by decide), fun e => absurd e (by decide), fun _ => ?_, fun _ _ _ _ _ e => absurd rfl e⟩
    cases K with
    | nil => exact absurd rfl (hK5 rfl)
    | cons f K =>
      obtain ⟨kd, w, m, kp⟩ := f
      obtain ⟨k1, k2, k3, k4, k5, k6, k7⟩ := ho4
      exact x_carry hX hk hmk ⟨k1, k2⟩ (fun e => ⟨(k6 e).1, (k6 e).2.1⟩) (fun a b => ho9 kd w m kp K rfl rfl a b) (by omega) ho6 (fun e => (k6 e).2.2) (by omega) hgo
theorem w53 {Q : Int32 → MS → Prop} {K29 : Int32 → MS → Prop} {x N r : Nat} {σ σ' : ASt} {u : MS} (hE : E = eM τ n s L lim C en PL pP G) (hW : HW W τ n s L lim) (hT : TXok τ n) (hEv : Ev E (N + 1) σ r σ') (hMR : MR W σ u) (hne : σ.1 ≠ 6) (hK : ∀ u1, Ev E N (aTurn E σ) r σ' → MR W (aTurn E σ) u1 → K29 (nI (x + 1)) u1) (hQ : ∀ u1, MR W σ' u1 → Q (nI r) u1) : B_M_walk_53 Q K29 (nI x) u := by
  obtain ⟨mo, i, K, p, c, B, st, nf, nb, ns⟩ := σ
  have hne : mo ≠ 6 := hne
  obtain ⟨hok, hEv⟩ := hEv
  have el : e_lim E = lim := by subst hE; rfl
  have hl : lim ≤ 300 := hW.2.2.2.2.2.2.2
  have hst : st ≤ 300 := by have := hok.2.2.2.2.1; omega
  have hom : mo ≤ 6 := hok.2.2.2.2.2.1
  have hF : aFin E (mo, i, K, p, c, B, st, nf, nb, ns) = if mo = 6 ∧ B = [] then some 0 else if mo = 5 ∧ K = [] then some 1 else if mo = 2 ∧ st = e_lim E then some 2 else none := rfl
  rw [hF, if_neg (fun z => hne z.1)] at hEv
  have hX := hMR.1
  have hmo : m_mode u = nI mo := hMR.2.1
  obtain ⟨hat, k, hmk, hk⟩ := hMR.2.2 hne
  have nx : (mo = 5 → K ≠ []) → (mo = 2 → st ≠ lim) → B_M_walk_91 Q K29 (nI x) u := by
    intro h5 h2
    rw [if_neg (fun z => h5 z.1 z.2), if_neg (fun z => h2 z.1 (by rw [← el]; exact z.2))] at hEv
    rcases hEv with ⟨e, _⟩ | ⟨_, hEv⟩
    · cases e
    · cases N with
      | zero => exact hEv.elim
      | succ N => exact m_turn hE hW hT hok hEv.1 h2 h5 hMR hne (fun u1 h1 => hK u1 hEv h1)
  have b70 : (mo = 5 → K ≠ []) → B_M_walk_70 Q K29 (nI x) u := by
    intro h5
    unfold B_M_walk_70
    rw [hmo, hX.2.1, W_lim hW hX.1]
    refine ⟨fun q => ⟨fun q2 => ?_, fun q2 => nx h5 (fun _ z => q2 (by rw [z]))⟩, fun q => nx h5 (fun z => absurd (by rw [z]; rfl) q)⟩
    have q : mo = 2 := (neq (b := 2) (by omega) (by decide)).mp q
    have q2 : st = lim := (neq (by omega) (by omega)).mp q2
    rw [if_neg (by omega), if_pos ⟨q, by rw [el]; exact q2⟩] at hEv
    rcases hEv with ⟨e, e2⟩ | ⟨e, _⟩
    · cases e
      exact hQ u (by rw [e2]; exact hMR)
    · cases e
  unfold B_M_walk_53
  rw [hmo, hmk]
  refine ⟨fun q => ?_, fun q => b70 (fun z => absurd (by rw [z]; rfl) q)⟩
  have q : mo = 5 := (neq (b := 5) (by omega) (by decide)).mp q
  cases K with
  | nil =>
    have hk0 : k = 0 := hk.2
    refine ⟨fun _ => ?_, fun z => absurd (by rw [hk0]; rfl) z⟩
    rw [if_pos ⟨q, rfl⟩] at hEv
    rcases hEv with ⟨e, e2⟩ | ⟨e, _⟩
    · cases e
      exact hQ u (by rw [e2]; exact hMR)
    · cases e
  | cons f K =>
    obtain ⟨kd, w, m, kp⟩ := f
    obtain ⟨hkn, h0, h1, _⟩ := hk
    exact ⟨fun z => absurd z (nI_ne0 (by omega) (by omega)), fun _ => b70 (fun _ z => by cases z)⟩
theorem m_walk {Q : Int32 → MS → Prop} {r : Nat} {σ' : ASt} (hE : E = eM τ n s L lim C en PL pP G) (hW : HW W τ n s L lim) (hT : TXok τ n) (hQ : ∀ u1, MR W σ' u1 → Q (nI r) u1) : ∀ (N : Nat) (σ : ASt) (u : MS) (x : Nat), Ev E N σ r σ' → MR W σ u → x + N ≤ 1000000 → ∀ f, N ≤ f → L_M_walk_29 Q f (nI x) u := by
  intro N
  induction N using Nat.strongRecOn with
  | _ N ih =>
    intro σ u x hEv hMR hx f hf
    cases N with
    | zero => exact hEv.elim
    | succ N =>
      cases f with
      | zero => omega
      | succ f =>
        refine ⟨fun q => absurd q (nI_ge (b := 1000000) (by omega) (by decide)), fun _ => ?_⟩
        have hmo : m_mode u = nI σ.1 := by obtain ⟨mo, i, K, p, c, B, st, nf, nb, ns⟩ := σ; exact hMR.2.1
        have hok := hEv.1
        have hom : σ.1 ≤ 6 := by obtain ⟨mo, i, K, p, c, B, st, nf, nb, ns⟩ := σ; exact hok.2.2.2.2.2.1
        rw [hmo]
        refine ⟨fun q => ?_, fun q => w53 hE hW hT hEv hMR (fun z => q (by rw [z]; rfl)) (fun u1 h1 h2 => ih N (by omega) _ u1 (x + 1) h1 h2 (by omega) f (by omega)) hQ⟩
        have q : σ.1 = 6 := (neq (b := 6) (by omega) (by decide)).mp q
        obtain ⟨mo, i, K, p, c, B, st, nf, nb, ns⟩ := σ
        have q : mo = 6 := q
        subst q
        obtain ⟨hX, _, _⟩ := hMR
        obtain ⟨_, hEv⟩ := hEv
        cases B with
        | nil =>
          refine s_retreat0 hX.2.2.2.2.1 ⟨fun _ => ?_, fun z => absurd rfl z⟩
          rcases hEv with ⟨e, e2⟩ | ⟨e, _⟩
          · have e : some 0 = some r := e
            cases e
            exact hQ u (by rw [e2]; exact ⟨hX, hmo, fun z => absurd rfl z⟩)
          · have e : some 0 = none := e
            cases e
        | cons b B =>
          obtain ⟨mo, i', p', K', c', fl, nf', nb', ns'⟩ := b
          have hF : aFin E (6, i, K, p, c, (mo, i', p', K', c', fl, nf', nb', ns') :: B, st, nf, nb, ns) = none := fin_none (fun _ z => by cases z) (fun z => absurd z (by decide)) (fun z => absurd z (by decide))
          rw [hF] at hEv
          rcases hEv with ⟨e, _⟩ | ⟨_, hEv⟩
          · cases e
          obtain ⟨m1, m2, m3, m4, m5, m6, ⟨n1, n2, n3, n4, n5, n6, ⟨f', n7, n8, n9⟩, n10⟩⟩ := hX
          have hB : B.length < 4000 := by have := hok.2.1; rw [List.length_cons] at this; omega
          have hmo5 : mo ≤ 5 := hok.2.2.1.1
          refine s_retreat (b := B.length) m5 hB n7 n3 n4 n5 (by omega) (by omega) ⟨fun z => absurd z (by decide), fun _ => ?_⟩
          cases N with
          | zero => exact hEv.elim
          | succ N =>
            have hMR2 : MR W (aTurn E (6, i, K, p, c, (mo, i', p', K', c', fl, nf', nb', ns') :: B, st, nf, nb, ns)) (ms_frames (mGo (ms_caps (ms_p (ms_backs u (nI B.length)) (nI p')) (m_bKept u B.length)) mo i' f') (nI nf')) :=
              ⟨⟨m1, m2, rfl, rfl, rfl, n6, n10⟩, rfl, fun _ => ⟨rfl, f', rfl, n8, n9⟩⟩
            exact w53 hE hW hT hEv hMR2 (fun z => by have z : mo = 6 := z; omega) (fun u1 h1 h2 => ih N (by omega) _ u1 (x + 1) h1 h2 (by omega) f (by omega)) hQ
end MW
