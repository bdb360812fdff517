set_option maxRecDepth 16384
/-! SCHEMA, the twin: the call -/
section ZF
variable {μ μ' μ'' μ0 ν : ab_M} {d : Nat} {D : Dr} {W tp : List Int} {s : Nat}
def frSc (μ μ' : ab_M) : Prop := ∀ a i, ¬ dZ a i → a ≠ 7760 → (a ≠ 7756 ∨ i ≠ 1 ∧ i ≠ 4 ∧ i ≠ 6) → μ' a i = μ a i
def frSk (s : Nat) (μ μ' : ab_M) : Prop := ∀ a i, ¬ dZ a i → a ≠ 7760 → ¬ kReg s a i → (a ≠ 7762 ∧ a ≠ 7763 ∧ a ≠ 7764 ∧ a ≠ 7857 ∨ i ≠ s) → a ≠ 7862 → a ≠ 7945 → (a ≠ 7756 ∨ i ≠ 1 ∧ i ≠ 4 ∧ i ≠ 6 ∧ i ≠ 260 ∧ i ≠ 264 ∧ i ≠ 268 ∧ i ≠ 273 ∧ i ≠ 298 ∧ i ≠ 297) → μ' a i = μ a i
theorem tJd.sc (h : tJd μ0 μ D) (g : frLA D.1.length μ μ') (lo : ∀ i, i < D.1.length → tyR D i = 1 → tLo μ' (120 + i) (tyFs D i).length (lF D i) (lS D i)) (o : drO D) (p : drP D W) (nf : noF D) (hw : μ0 7857 4 = W.length ∧ tBy μ0 7856 36000 W) : tSc μ' 4 (mkS D) (mkN D W) := by
  have h1 := h.1
  have fr : ∀ a i, (a = 7763 ∨ a = 7764 ∨ a = 7857 ∨ a = 7856) → μ' a i = μ0 a i := fun a i q => by rw [g a i (by omega) (by omega) (by omega) (by omega) (by omega), h.2.1 a i (by omega) (by omega) (by omega) (by omega)]
  refine ⟨⟨(fr _ _ (by omega)).trans h1.1.1, (fr _ _ (by omega)).trans h1.2.1.1⟩, ⟨(fr _ _ (by omega)).trans hw.1, hw.2.to fun i _ _ => fr _ _ (by omega)⟩, fun k hk => ?_, fun v hv => ?_⟩
  · have hk : (k : Int) < (D.1.length : Int) := hk
    exact h.ty g lo o p nf (by omega)
  · have hv : (v : Int) < (D.2.length : Int) := hv
    exact h.sv g p nf (by omega)
theorem kReg_z {a x : Nat} (h : kReg s a x) (hs : s < 4) : ¬ dZ a x ∧ a ≠ 7760 ∧ a ≠ 7756 ∧ a ≠ 7862 ∧ a ≠ 7945 := by
  obtain ⟨g, g1, g2, g3, g4⟩ := h
  have : g = 0 ∨ g = 1 ∨ g = 2 ∨ g = 3 ∨ g = 4 ∨ g = 5 ∨ g = 6 ∨ g = 7 ∨ g = 8 ∨ g = 9 := by omega
  unfold dZ
  rcases this with rfl | rfl | rfl | rfl | rfl | rfl | rfl | rfl | rfl | rfl <;> simp only [kgL, kgU, List.mem_cons, List.not_mem_nil, or_false] at g2 g3 g4 <;> omega
theorem ndZ_m {a i : Nat} (h : ¬ dZ a i) : a ≠ 7756 ∨ ¬ (7 ≤ i ∧ i ≤ 18 ∨ i = 110 ∨ 116 ≤ i ∧ i ≤ 131) := by
  by_cases z : a = 7756
  · subst z
    exact Or.inr fun y => h (dZ_m y)
  · exact Or.inl z
theorem frLA.sg {n : Nat} (g : frLA n μ μ') : frSg μ μ' := fun a i h => by
  have m := ndZ_m h
  refine g a i (fun z => h (by rw [z]; exact dZ_w (by decide) (by decide))) (by omega) ?_ ?_ ?_
  · by_cases z : 7775 ≤ a ∧ a ≤ 7805 ∧ 2880 ≤ i
    · exact absurd (dZ_f z.1 z.2.1 z.2.2) h
    · omega
  · by_cases z : 7807 ≤ a ∧ a ≤ 7812 ∧ 960 ≤ i
    · exact absurd (dZ_o z.1 z.2.1 z.2.2) h
    · omega
  · by_cases z : 7765 ≤ a ∧ a ≤ 7774 ∧ 120 ≤ i
    · exact absurd (dZ_t z.1 z.2.1 z.2.2) h
    · omega
theorem kgL_lt : ∀ g, g < 10 → ∀ a ∈ kgL g, a ≠ 7756 ∧ a < 7862 := by decide +kernel
theorem tCd.fg {S : SF} {Q : Cd} (h : tCd μ s S Q) (g : frFg μ μ') : tCd μ' s S Q := fun v c hv hc => by
  obtain ⟨h1, h2⟩ := h v c hv hc
  refine ⟨fun i y hy => ?_, fun i z hz => ?_⟩
  · obtain ⟨a, b, e⟩ := h1 i y hy
    exact ⟨(g _ _ (by decide) (by decide) (by omega)).trans a, fun q => (g _ _ (by decide) (by decide) (by omega)).trans (b q), (g _ _ (by decide) (by decide) (by omega)).trans e⟩
  · obtain ⟨a, b⟩ := h2 i z hz
    exact ⟨(g _ _ (by decide) (by decide) (by omega)).trans a, fun q => (g _ _ (by decide) (by decide) (by omega)).trans (b q)⟩
theorem tw_schema (hs : s < 4) {rw' : Nat → List Int} (c : tR μ tp rw') (hb : ∀ x ∈ tp, 0 ≤ x ∧ x < 256) : R0 (ab_run wt (d + 14) 275 0 [(2, 7756), (0, s), (3, 0)] [] μ) (fun v μ' => μ' 7756 1 = 0 ∧ match spText (tpT tp) tp.length with
    | .inl f => v = w32 (-10 - f.1) ∧ μ' 7756 4 = f.2 ∧ frSc μ μ'
    | .inr (D, W) => ∃ w p, mnF (FSt D) w p ∧ (w ≠ 0 → v = w32 (-10 - w) ∧ μ' 7756 4 = p ∧ frSc μ μ') ∧ (w = 0 → v = D.1.length ∧ μ' 7756 4 = -2 ∧ μ' 7762 s = 1 ∧ scOK (mkS D) (mkN D W) ∧ tSc μ' s (mkS D) (mkN D W) ∧ tCd μ' s (mkS D) (mkC D) ∧ fgS s μ μ' ∧ frSk s μ μ')) := by
  obtain ⟨⟨ln, c1, c2⟩, -⟩ := c
  obtain ⟨μ1, k1, k2, k3, k4, k5, k6⟩ := tw_take10 (d := d + 12) (n := tp.length) ln tp 0 (ab_up μ 7756 6 (tp.length : Int)) (by omega) ((up_j (by decide)).trans c1) (c2.to fun i _ _ => up_a (by decide))
  have k1' : (ab_run wt (d + 13) 300 10 [(2, 7756), (0, 0)] [] (ab_up μ 7756 6 (tp.length : Int))) = some ((3, 0), μ1) := k1
  have tk : (ab_run wt (d + 13) 300 0 [(2, 7756), (3, 0)] [] μ) = some ((3, 0), μ1) := by
    rw [eX19_take_0, c1]
    exact k1'
  have e := eX19_schema_0 (d + 13) s μ
  rw [tw_isSchema, cal0, if_pos (show 0 ≤ (s : Int) ∧ (s : Int) < 4 by omega), if_neg (by decide), tk, cal3] at e
  have f2 : ∀ a i, (a ≠ 7760) → (a ≠ 7756 ∨ i ≠ 1 ∧ i ≠ 7 ∧ i ≠ 17 ∧ i ≠ 6 ∧ i ≠ 4) → ab_up μ1 7756 4 (-2) a i = μ a i := fun a i q1 q2 => by
    rw [up_if, if_neg (by omega), k6 a i (Or.inl q1) (by omega), up_if, if_neg (by omega)]
  have tx : tTx (ab_up μ1 7756 4 (-2)) (tpT tp) tp.length := by
    refine ⟨?_, ln, fun i hi => ?_⟩
    · rw [up_j (by decide), k6 _ _ (Or.inl (by decide)) (Or.inr (by decide)), up_at]
    · have e : tp[i]? = some tp[i] := List.getElem?_eq_getElem hi
      have g := k2 i tp[i] e
      have r := hb tp[i] (List.getElem_mem hi)
      have ee : tpT tp i = tp[i] := by unfold tpT; rw [e]; rfl
      rw [ee, up_a (by decide)]
      refine ⟨r.1, r.2, ?_⟩
      rw [Nat.zero_add] at g
      exact g
  have s0 : ab_up μ1 7756 4 (-2) 7756 7 = 0 := (up_j (by decide)).trans k4
  have f0 : ab_up μ1 7756 4 (-2) 7756 17 = 0 := (up_j (by decide)).trans k5
  have p0 : ab_up μ1 7756 4 (-2) 7756 4 = -2 := up_at
  have t0 : ab_up μ1 7756 4 (-2) 7756 1 = 0 := (up_j (by decide)).trans k3
  have hT : ∀ k, k < tp.length → 0 ≤ tpT tp k ∧ tpT tp k < 256 := fun k hk => ⟨(tx.2.2 k hk).1, (tx.2.2 k hk).2.1⟩
  generalize ab_up μ1 7756 4 (-2) = ν0 at *
  obtain ⟨q1, q2⟩ := tg_parse (d := d + 1) tx s0 f0
  cases hsp : spText (tpT tp) tp.length with
  | inl f =>
    obtain ⟨v, μ2, r1, r2, r3, r4, r5⟩ := q1 f hsp
    rw [r1, cal0, r2, if_pos rfl, r3, r4] at e
    refine ⟨_, _, e, ?_, rfl, up_at, fun a i h1 h2 h3 => ?_⟩
    · rw [up_j (by decide), r5 _ _ (by unfold dZ; omega)]
      exact t0
    · rw [up_if, if_neg (by omega), r5 a i h1]
      exact f2 a i h2 (by have := ndZ_m h1; omega)
  | inr P =>
    obtain ⟨D, W⟩ := P
    obtain ⟨μ2, ν', σ, r1, r2, r3, r4, r5, r6⟩ := q2 _ hsp
    obtain ⟨-, -, -, -, -, -, oo, pp⟩ := spText_ok hT ln hsp
    have r3 : σ.2 = W := r3
    have dr : tDr μ2 D := r5.gh r2
    have ft : μ2 7756 17 = 0 := r2.1.1.2.2.2
    have fr2 : frSg ν0 μ2 := fun a i h => (r2.2.z a i h).trans (r6 a i h)
    rw [r1, cal0, if_neg (by decide)] at e
    obtain ⟨w, p, m1, m2, m3⟩ := tw_judgeAll (d := d + 7) dr oo ft
    by_cases wz : w = 0
    · obtain ⟨μ3, j1, j2, j3, j4⟩ := m3 wz
      have nf : noF D := fun X Y hh => by
        rcases m1 with ⟨-, m⟩ | ⟨m, -⟩
        · exact m X Y hh
        · exact m wz
      rw [j1, cal0, if_neg (by decide)] at e
      have jd : tJd μ2 μ3 D := ⟨dr, j2, j3, j4⟩
      have len := dr.len
      have ok := mk_ok nf len oo pp
      obtain ⟨μ4, l1, l2, l3⟩ := tw_sc53 (d := d + 10) (s := (s : Int)) (μ := μ3) ((j2 _ _ (by omega) (by omega) (by omega) (by omega)).trans dr.1.1) dr.1.2 (fun k hk => by
        obtain ⟨x, x1, x2, x3, -⟩ := ty_get hk
        rw [j2 _ _ (by omega) (by omega) (by omega) (by omega), x3]
        exact (dr.2.2.1 k x x1).1.2.2.1) pp.r01 nf (fun k hk r => jd.lf oo pp nf hk r) D.1.length 0 μ3 (by omega) (fun _ _ _ _ _ _ _ => rfl) (fun i hi => by omega)
      have hw : μ2 7857 4 = W.length ∧ tBy μ2 7856 36000 W := by
        rw [← r3]
        exact ⟨r2.1.2.2.1, r2.1.2.2.2⟩
      have sc := jd.sc l2 l3 oo pp nf hw
      have cd := jd.cd l2 oo nf
      have tcn : μ4 7763 4 = D.1.length := sc.1.1
      have w1 : w32 (120 + (D.1.length : Int)) = 120 + D.1.length := w32_id (by omega) (by have := dr.1.2; omega)
      have e2 := eX19_schema_53 (d + 13) s ((120 + D.1.length : Nat) : Int) μ4
      rw [tcn, w1, if_neg (by omega)] at e2
      obtain ⟨μ5, n1, n2, n3, n4⟩ := tw_keepSchema (d := d + 11) (s := s) (W := W) hs tcn dr.1.2 (show μ4 7764 4 = (D.2.length : Int) from sc.1.2) dr.2.1.2 (show μ4 7857 4 = (W.length : Int) from sc.2.1.1) (by have := pp.2.2; omega) (fun k hk => by
        have := (sc.2.2.1 k (by show (k : Int) < (D.1.length : Int); omega)).1.1
        rw [show 30 * 4 + k = 120 + k by omega] at this
        rw [this]
        exact pp.r01 k hk)
      rw [n1, cal3] at e2
      obtain ⟨μ6, g1, g2, g3⟩ := tw_forgetSchema (d := d + 11) (s := s) (μ := μ5)
      rw [g1, cal3, if_pos (show 0 ≤ (s : Int) ∧ (s : Int) < 5 by omega), Int.toNat_natCast, g3 _ _ (by decide) (by decide) (by omega), n2.2.1] at e2
      have e3 := e.trans (l1.trans e2)
      have fr4 : frSg μ2 μ4 := fun a i h => (l2.sg a i h).trans (j2.sg a i h)
      have all5 : ∀ a i, ¬ dZ a i → a ≠ 7760 → ¬ kReg s a i → (a ≠ 7762 ∧ a ≠ 7763 ∧ a ≠ 7764 ∧ a ≠ 7857 ∨ i ≠ s) → (a ≠ 7756 ∨ i ≠ 1 ∧ i ≠ 4 ∧ i ≠ 6) → μ5 a i = μ a i := fun a i h1 h2 h3 h4 h5 => by
        rw [n4 a i h3 h4, fr4 a i h1, fr2 a i h1]
        exact f2 a i h2 (by have := ndZ_m h1; omega)
      have no56 : ∀ a i, (a = 7756 ∧ (i = 260 ∨ i = 261 ∨ i = 264 ∨ i = 268 ∨ i = 273 ∨ i = 297 ∨ i = 298) ∨ a = 7862 ∨ a = 7863 ∨ a = 7945 ∨ a = 7946) → μ5 a i = μ a i := fun a i q => all5 a i (by unfold dZ; omega) (by omega) (fun ⟨g, g1, g2, _⟩ => by have := kgL_lt g g1 a g2; omega) (by omega) (by omega)
      have pl5 : μ5 7756 4 = -2 ∧ μ5 7756 1 = 0 := by
        rw [n4 _ _ (fun h => (kReg_z h hs).2.2.1 rfl) (by omega), n4 _ _ (fun h => (kReg_z h hs).2.2.1 rfl) (by omega), fr4 _ _ (by unfold dZ; omega), fr4 _ _ (by unfold dZ; omega), fr2 _ _ (by unfold dZ; omega), fr2 _ _ (by unfold dZ; omega)]
        exact ⟨p0, t0⟩
      refine ⟨_, _, e3, ?_, w, p, m1, fun z => absurd wz z, fun _ => ⟨rfl, ?_, ?_, ok, ?_, ?_, ?_, fun a i h1 h2 h3 h4 h5 h6 h7 => ?_⟩⟩
      · rw [g3 _ _ (by decide) (by decide) (by decide)]
        exact pl5.2
      · rw [g3 _ _ (by decide) (by decide) (by decide)]
        exact pl5.1
      · rw [g3 _ _ (by decide) (by decide) (by omega)]
        exact n2.1
      · have t5 := sc.kept (μ' := μ5) hs ok rfl rfl ⟨n2.2.1, n2.2.2.1, n2.2.2.2⟩ n3
        exact t5.to7 fun a a1 a2 => funext fun i => g3 a i (by omega) (by omega) (by omega)
      · refine (cd.kept (μ' := μ5) (nt := D.1.length) ok rfl (fun v c hv hc => ?_) n3).fg g3
        have hv : (v : Int) < (D.2.length : Int) := hv
        have hc : (c : Int) < ((svX D v).2.2.2.length : Int) := hc
        have lc := (len.2.2.2 _ (List.mem_of_getElem? (sv_get (show v < D.2.length by omega)))).2.2 _ (List.mem_of_getElem? (cl_get (show c < (svX D v).2.2.2.length by omega)))
        unfold mkC
        rw [List.length_map, cdN_map, List.length_map]
        omega
      · obtain ⟨x1, x2, x3, x4⟩ := g2
        refine ⟨fun m hm => ?_, fun q => x2 ?_, fun q => ?_, fun c hc => ?_⟩
        · have := x1 m hm
          rw [no56 7862 _ (by omega), no56 7863 _ (by omega)] at this
          exact this
        · rw [no56 7756 260 (by omega), no56 7756 261 (by omega)]
          exact q
        · have := x3 (by rw [no56 7756 260 (by omega), no56 7756 261 (by omega)]; exact q)
          rw [no56 7756 260 (by omega), no56 7756 264 (by omega), no56 7756 268 (by omega), no56 7756 273 (by omega), no56 7756 298 (by omega), no56 7756 297 (by omega)] at this
          exact this
        · have := x4 c hc
          rw [no56 7945 _ (by omega), no56 7946 _ (by omega)] at this
          exact this
      · rw [g3 a i h5 h6 (by omega)]
        exact all5 a i h1 h2 h3 h4 (by omega)
    · obtain ⟨v, μ3, j1, j2, j3, j4, j5⟩ := m2 wz
      rw [j1, cal0, j2, if_pos rfl, j3, j4] at e
      refine ⟨_, _, e, ?_, w, p, m1, fun _ => ⟨rfl, up_at, fun a i h1 h2 h3 => ?_⟩, fun z => absurd z wz⟩
      · rw [up_j (by decide), j5 _ _ (by unfold dZ; omega), fr2 _ _ (by unfold dZ; omega)]
        exact t0
      · rw [up_if, if_neg (by omega), j5 a i h1, fr2 a i h1]
        exact f2 a i h2 (by have := ndZ_m h1; omega)
end ZF
