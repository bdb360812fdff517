set_option maxRecDepth 16384
section
section Ky
variable {μ μ' μ'' : ab_M} {d : Nat} {A cr ci cb k b : Nat} {S : SF} {N : NF} {n : Nat} {ty : Nat → Nat} {V : Nat → Nat → List It} {U : Nat → List Un} {ni nu us : Nat} {X : Rsv}
def kKy (f : Nat) : Prop := f = 23 ∨ f = 24 ∨ f = 25
def frKy (A : Nat) (μ μ' : ab_M) : Prop := (∀ f, kKy f → ∀ i : Nat, (i : Int) < μ A 17 → μ' (msA A f) i = μ (msA A f) i) ∧ μ A 17 ≤ μ' A 17 ∧ (∀ i : Nat, (i : Int) < μ A 33 → μ' (msA A 32) i = μ (msA A 32) i) ∧ μ A 33 ≤ μ' A 33
theorem frKy.refl : frKy A μ μ := sorry
theorem frKy.trans (f : frKy A μ μ') (g : frKy A μ' μ'') : frKy A μ μ'' := sorry
theorem frKy.all (h : ∀ f, kKy f ∨ f = 32 → ∀ i, μ' (msA A f) i = μ (msA A f) i) (h1 : μ' A 17 = μ A 17) (h2 : μ' A 33 = μ A 33) : frKy A μ μ' := sorry
theorem frKy.up {g i : Nat} {v : Int} (hg : msO g ≠ 0) (h : ¬ kKy g) (h32 : g ≠ 32) : frKy A μ (ab_up μ (msA A g) i v) := sorry
theorem c_leaveLK {r j : Nat} (hm : isM A cr ci cb) (hr : r < n) (hj : j < fCt S (ty r)) (h15 : 0 ≤ S 15 (ty r) j) : ∀ (m i : Nat) (μ : ab_M) (V : Nat → Nat → List It), i + m = fCt S (ty r) → cMS μ A k b S N → CM X S μ A cr ci cb n ty V U ni nu us →
    R3 (ab_run wc (d + 2) 431 23 [(3, 0), (2, A), (0, r), (0, j), (2, (tyA b (ty r))), (0, (S 15 (ty r) j)), (0, i)] [] μ) (fun μ' => CM X S μ' A cr ci cb n ty (lvV S (ty r) r j V m i) U ni nu us ∧ frM A μ μ' ∧ frKy A μ μ') := sorry
theorem c_leaveOneK {r j : Nat} (hm : isM A cr ci cb) (hr : r < n) (hj : j < fCt S (ty r)) (hs : cMS μ A k b S N) (hc : CM X S μ A cr ci cb n ty V U ni nu us) :
    R3 (ab_run wc (d + 2) 431 0 [(2, 1), (2, A), (0, r), (0, j), (3, 0), (3, 0), (3, 0)] [] μ) (fun μ' => CM X S μ' A cr ci cb n ty (lvO S (ty r) r j V) U ni nu us ∧ frM A μ μ' ∧ frKy A μ μ') := sorry
theorem c_setNumberK {r j : Nat} {v : Int} (hm : isM A cr ci cb) (hr : r < n) (hj : j < fCt S (ty r)) (h1 : S 11 (ty r) j < 2) (h0 : fSo (S 12 (ty r) j) = 0) (hs : cMS μ A k b S N) (hc : CM X S μ A cr ci cb n ty V U ni nu us) :
    R3 (ab_run wc (d + 3) 512 0 [(2, 1), (2, A), (0, r), (0, j), (1, v), (3, 0), (3, 0), (3, 0)] [] μ) (fun μ' => CM X S μ' A cr ci cb n ty (upV (lvO S (ty r) r j V) r j (if isPl S (ty r) j ∧ v = S 19 (ty r) j then [] else [itN v])) U ni nu us ∧ frM A μ μ' ∧ frKy A μ μ') := sorry
theorem c_setBytesK {r j a o la : Nat} {l : List Int} (hm : isM A cr ci cb) (hr : r < n) (hj : j < fCt S (ty r)) (h1 : S 11 (ty r) j < 2) (h0 : fSo (S 12 (ty r) j) = 1) (ha : wc_ar a = (4, la)) (hn : ¬ inM A a) (hl : o + l.length ≤ la) (ho : la < 100000) (hb : cBy μ a o l) (hu2 : us + l.length ≤ cb) (hs : cMS μ A k b S N) (hc : CM X S μ A cr ci cb n ty V U ni nu us) :
    R3 (ab_run wc (d + 3) 510 0 [(2, 1), (2, A), (0, r), (0, j), (2, a), (0, o), (0, (l.length)), (3, 0), (3, 0), (3, 0)] [] μ) (fun μ' => frKy A μ μ') := sorry
theorem c_newRecK {t : Nat} (hm : isM A cr ci cb) (hn : n < cr) (ht : (t : Int) < S 0 0 0 ∧ S 2 t 0 = 1) (hs : cMS μ A k b S N) (hc : CM X S μ A cr ci cb n ty V U ni nu us) :
    R0 (ab_run wc (d + 2) 462 0 [(2, 1), (2, A), (0, t)] [] μ) (fun _ μ' => frKy A μ μ') := sorry
theorem c_recordIn0K {r j t' : Nat} (hm : isM A cr ci cb) (hr : r < n) (hj : j < fCt S (ty r)) (h1 : S 11 (ty r) j < 2) (h0 : fSo (S 12 (ty r) j) = 2) (hs : cMS μ A k b S N) (hc : CM X S μ A cr ci cb n ty V U ni nu us) (hv : V r j = []) (hn : n < cr) (h13 : S 13 (ty r) j = t') (ht : (t' : Int) < S 0 0 0 ∧ S 2 t' 0 = 1) :
    R0 (ab_run wc (d + 3) 496 0 [(2, 1), (2, A), (0, r), (0, j), (3, 0)] [] μ) (fun _ μ' => frKy A μ μ') := sorry
theorem c_insertK {k : Int} {r j a o : Nat} {ln : Int} {v : Int} {l : List Int} (hm : isM A cr ci cb) (hr : r < n) (hj : j < fCt S (ty r)) (m3 : S 11 (ty r) j = 3) (hk : S 14 (ty r) j = k) (k1 : 1 ≤ k) (k2 : k ≤ 9) (hc : CM X S μ A cr ci cb n ty V U ni nu us) (hn : ni < ci) (hl : kyA μ k a o ln l) (hin : k = 9 → ¬ inM A a) (hu : k = 9 → us + l.length ≤ cb) (v2 : k ≠ 9 → lng v) (hv : ∀ t ∈ V r j, lng t.1) :
    ∃ s : Nat, μ (msA A 5) r + j = s ∧ R0 (ab_run wc (d + 5) 411 0 [(2, 1), (2, A), (0, s), (2, (200000 + k)), (1, v), (3, 0), (2, a), (0, o), (0, ln), (3, 0), (3, 0), (3, 0)] [] μ) (fun _ μ' => frKy A μ μ') := sorry
theorem c_newItemKy (hm : isM A cr ci cb) (hc : CM X S μ A cr ci cb n ty V U ni nu us) (hn : ni < ci) : R0 (ab_run wc (d + 1) 616 0 [(2, A)] [] μ) (fun _ μ' => frKy A μ μ') := sorry
theorem c_appendKy {r j it : Nat} {t : It} (hm : isM A cr ci cb) (hr : r < n) (hj : j < fCt S (ty r)) (h1 : 2 ≤ S 11 (ty r) j) (hc : CM X S μ A cr ci cb n ty V U ni nu us) (hx : X it = some (fSo (S 12 (ty r) j), fKs (S 11 (ty r) j) (S 14 (ty r) j), t)) :
    ∃ s : Nat, μ (msA A 5) r + j = s ∧ R3 (ab_run wc (d + 1) 611 0 [(2, A), (0, s), (0, it)] [] μ) (fun μ' => frKy A μ μ') := sorry
end Ky
end
section
section Cl
variable {μ μ' μ'' : ab_M} {d : Nat} {T : Nat → Int} {n : Nat} {S : SF} {N : NF} {A cr ci cb kS b ar L i0 u0 Ls Ls' : Nat} {σ σ' : Sg} {h h' h'' : He} {X : Rsv} {Vc Vc' Vc'' : Nat → Nat → List It} {r j e p q it us t : Nat} {x0 : Nat × Nat × It} {Dp : Nat → Nat}
def frLd (A : Nat) (μ μ' : ab_M) : Prop := (∀ a i, ¬ inM A a → a ≠ 2 → (a ≠ 1 ∨ i ≠ 26 ∧ i ≠ 27 ∧ i ≠ 28 ∧ i ≠ 31 ∧ i ≠ 32 ∧ i ≠ 33) → μ' a i = μ a i) ∧ ∀ i, i < 3 → μ' A i = μ A i
theorem frLd.refl : frLd A μ μ := sorry
theorem frLd.trans (f : frLd A μ μ') (g : frLd A μ' μ'') : frLd A μ μ'' := sorry
theorem frM.ld (f : frM A μ μ') : frLd A μ μ' := sorry
theorem frLc.m (f : frLc μ μ') (hm : isM A cr ci cb) {a : Nat} (ha : inM A a) (i : Nat) : μ' a i = μ a i := sorry
theorem frLc.ld (f : frLc μ μ') (hm : isM A cr ci cb) : frLd A μ μ' := sorry
theorem frLc.ky (f : frLc μ μ') (hm : isM A cr ci cb) : frKy A μ μ' := sorry
theorem cMS.lc (c : cMS μ A kS b S N) (hm : isM A cr ci cb) (f : frLc μ μ') : cMS μ' A kS b S N := sorry
theorem cIn.ld (c : cIn μ ar L n T) (na : ¬ inM A ar) (f : frLd A μ μ') (hm : isM A cr ci cb) : cIn μ' ar L n T := sorry
def RfLd (run : ab_R) (A : Nat) (μ : ab_M) (f : Flt) : Prop := RT run (fun μ' => μ' 2 6 = f.1 ∧ μ' 2 7 = f.2 ∧ frLd A μ μ')
theorem RfL.ld {run : ab_R} {f : Flt} (g : RfL run μ f) (hm : isM A cr ci cb) : RfLd run A μ f := sorry
theorem RfG.ld {run : ab_R} {f : Flt} (g : RfG run μ f) (hm : isM A cr ci cb) : RfLd run A μ f := sorry
theorem RfLd.to {run : ab_R} {f : Flt} (g : RfLd run A μ' f) (q : frLd A μ μ') : RfLd run A μ f := sorry
theorem RfLd.cal {tag : Nat} {run : ab_R} {f : Flt} {g : Int → ab_M → ab_R} (h : RfLd run A μ f) : RfLd (ab_cal run tag (fun r1 μ1 => some ((4, r1), μ1)) g) A μ f := sorry
def CLd (S : SF) (N : NF) (T : Nat → Int) (n A kS b ar L : Nat) (X : Rsv) (i0 u0 : Nat) (μ : ab_M) (p Ls : Nat) (σ : Sg) (Vc : Nat → Nat → List It) : Prop := CSd S N T n A kS b ar L X i0 u0 μ p σ Vc ∧ μ 1 30 = n ∧ μ 1 33 = Ls ∧ 0 ≤ μ 1 31
theorem CLd.ml (c : CLd S N T n A kS b ar L X i0 u0 μ p Ls σ Vc) (hm : isM A 2600 9000 12000) (f : frLc μ μ') (hat : μ' 1 26 = q) (hl : μ' 1 33 = Ls') (hf : 0 ≤ μ' 1 31) : CLd S N T n A kS b ar L X i0 u0 μ' q Ls' σ Vc := sorry
def cLz (S : SF) (N : NF) (T : Nat → Int) (n A kS b ar L : Nat) (run : ab_R) (μ : ab_M) (X : Rsv) (i0 u0 r : Nat) (h : He) (Vc : Nat → Nat → List It) : Flt ⊕ (Nat × Nat × Sg) → Prop
  | .inl f => RfLd run A μ f
  | .inr (p, Ls, σ') => R3 run (fun μ' => ∃ Vc', CLd S N T n A kS b ar L X i0 u0 μ' p Ls σ' Vc' ∧ agr r σ'.1 Vc' ∧ kps r h σ'.1 Vc Vc' ∧ frLd A μ μ' ∧ frKy A μ μ')
def PLd (S : SF) (N : NF) (T : Nat → Int) (n A kS b ar L : Nat) (rec : Rl) : Prop := ∀ (D : Nat) (μ : ab_M) (r dp p Ls : Nat) (σ : Sg) (X : Rsv) (i0 u0 : Nat) (Vc : Nat → Nat → List It) (Dp : Nat → Nat), 4 * (12 - dp) + 13 ≤ D → dp ≤ 12 → p ≤ n → Ls ≤ 400 → CLd S N T n A kS b ar L X i0 u0 μ p Ls σ Vc → agr r σ.1 Vc → hIn S σ.1 Dp → r < σ.1.1 → Dp r = dp → rec r dp p Ls σ ≠ .inl ovr →
  cLz S N T n A kS b ar L (ab_run wc D 436 0 [(2, 1), (2, A), (0, r), (0, dp), (3, 0), (3, 0), (3, 0)] [] μ) μ X i0 u0 r σ.1 Vc (rec r dp p Ls σ)
theorem c_lN {k : Int} {ty : Int} (hm : isM A 2600 9000 12000) (c : CLd S N T n A kS b ar L X i0 u0 μ p Ls σ Vc) (k1 : 0 ≤ k) (k2 : k ≤ 8 ∨ k = 11) (ht : k = 11 → ty = t ∧ (t : Int) < S 0 0 0 ∧ S 2 t 0 = 0) (hp : p ≤ n) :
    (∀ g, lvR S k t T n p = .inl g → RfLd (ab_run wc (d + 4) 439 0 [(2, 1), (2, A), (2, (200000 + k)), (0, ty), (3, 0), (3, 0), (3, 0)] [] μ) A μ g) ∧ ∀ v l q, lvR S k t T n p = .inr (v, l, q) → l = [] ∧ ∃ μ1, (ab_run wc (d + 4) 439 0 [(2, 1), (2, A), (2, (200000 + k)), (0, ty), (3, 0), (3, 0), (3, 0)] [] μ) = some ((1, v), μ1) ∧ CLd S N T n A kS b ar L X i0 u0 μ1 q Ls σ Vc ∧ frLc μ μ1 := sorry
theorem c_lB {k : Int} (hm : isM A 2600 9000 12000) (c : CLd S N T n A kS b ar L X i0 u0 μ p Ls σ Vc) (z9 : k = 9 ∨ k = 10) (hp : p ≤ n) :
    (∀ g, lvR S k t T n p = .inl g → RfLd (ab_run wc (d + 3) 433 0 [(2, 1), (2, (200000 + k)), (3, 0), (3, 0), (3, 0)] [] μ) A μ g) ∧ ∀ v l q, lvR S k t T n p = .inr (v, l, q) → v = 0 ∧ ∃ μ1 o, (ab_run wc (d + 3) 433 0 [(2, 1), (2, (200000 + k)), (3, 0), (3, 0), (3, 0)] [] μ) = some ((3, 0), μ1) ∧ l = slc T o l.length ∧ o + l.length ≤ n ∧ μ1 1 31 = o ∧ μ1 1 32 = l.length ∧ CLd S N T n A kS b ar L X i0 u0 μ1 q Ls σ Vc ∧ frLc μ μ1 := sorry
end Cl
end
section
section Cl
variable {μ μ' μ'' : ab_M} {d : Nat} {T : Nat → Int} {n : Nat} {S : SF} {N : NF} {A cr ci cb kS b ar L i0 u0 Ls Ls' : Nat} {σ σ' : Sg} {h h' h'' : He} {X : Rsv} {Vc Vc' Vc'' : Nat → Nat → List It} {r j e p q it us t : Nat} {x0 : Nat × Nat × It} {Dp : Nat → Nat}
theorem cLz.to {run run' : ab_R} {R : Flt ⊕ (Nat × Nat × Sg)} (x : cLz S N T n A kS b ar L run μ' X i0 u0 r h Vc R) (f : frLd A μ μ') (fk : frKy A μ μ') (e : run' = run) : cLz S N T n A kS b ar L run' μ X i0 u0 r h Vc R := sorry
theorem cLz.ret {run : ab_R} {R : Flt ⊕ (Nat × Nat × Sg)} (x : cLz S N T n A kS b ar L run μ X i0 u0 r h Vc R) : cLz S N T n A kS b ar L (ab_cal run 3 (fun r1 μ1 => some ((4, r1), μ1)) (fun _ μ1 => some ((3, 0), μ1))) μ X i0 u0 r h Vc R := sorry
theorem CLd.fm {σ' : Sg} (c : CLd S N T n A kS b ar L X i0 u0 μ p Ls σ Vc) (hm : isM A 2600 9000 12000) (fm : frM A μ μ') (cs : CSd S N T n A kS b ar L X i0 u0 μ' p σ' Vc') : CLd S N T n A kS b ar L X i0 u0 μ' p Ls σ' Vc' := sorry
theorem c_needD {dp : Nat} (hdp : dp ≤ 12) (hat : μ 1 26 = p) : (dp = 12 → RfG (ab_run wc (d + 2) 454 0 [(2, 1), (0, (((dp + 1 : Nat) : Int)))] [] μ) μ (6, (p : Int))) ∧ (dp ≠ 12 → (ab_run wc (d + 2) 454 0 [(2, 1), (0, (((dp + 1 : Nat) : Int)))] [] μ) = some ((3, 0), μ)) := sorry
theorem c_lField {rec : Rl} {D dp : Nat} (ih : PLd S N T n A kS b ar L rec) (ok : scOK S N) (hD : 4 * (12 - dp) + 11 ≤ D) (hdp : dp ≤ 12) (hm : isM A 2600 9000 12000) (cc : CLd S N T n A kS b ar L X i0 u0 μ p Ls σ Vc) (ag : agr r σ.1 Vc) (i : hIn S σ.1 Dp) (hr : r < σ.1.1) (hj : j < fCt S (σ.1.2.1 r)) (h2 : S 11 (σ.1.2.1 r) j < 2) (hd : Dp r = dp) (hp : p ≤ n) (hL : Ls ≤ 400) (z4 : σ.2.1 + 2 ≤ 4400) (z8 : σ.2.2 + (n - p) ≤ 8800) (no : lVl S N T n rec r dp j p Ls σ ≠ .inl ovr) :
    cLz S N T n A kS b ar L (ab_run wc D 434 0 [(2, 1), (2, A), (0, r), (0, j), (2, (fdA b (σ.1.2.1 r) j)), (0, dp)] [] μ) μ X i0 u0 r σ.1 Vc (lVl S N T n rec r dp j p Ls σ) := sorry
end Cl
end
section
section Cl
variable {μ μ' μ'' : ab_M} {d : Nat} {S : SF} {N : NF} {A cr ci cb : Nat} {X : Rsv} {nr ni nu us it : Nat} {ty : Nat → Nat} {V : Nat → Nat → List It} {U : Nat → List Un} {r j s : Nat} {y : It} {v : Int}
theorem CM.endG (cm : CM X S μ A cr ci cb nr ty (upV V r j (V r j ++ [y])) U ni nu us) (hr : r < nr) (hj : j < fCt S (ty r)) (my : 2 ≤ S 11 (ty r) j) (hs : s = bsF S ty r + j) (hit : itm μ A s (V r j).length = it) :
    it < ni ∧ cIt μ A us (fSo (S 12 (ty r) j)) (fKs (S 11 (ty r) j) (S 14 (ty r) j)) it y ∧ ∀ (μ' : ab_M) (us' : Nat) (t : It), us ≤ us' → us' ≤ cb → (∀ i, i ≠ 33 → μ' A i = μ A i) → μ' A 33 = us' → cIt μ' A us' (fSo (S 12 (ty r) j)) (fKs (S 11 (ty r) j) (S 14 (ty r) j)) it t →
      (∀ f x, msO f ≠ 0 → (itF f → f ≠ 22 → x ≠ it) → (f = 32 → x < us) → μ' (msA A f) x = μ (msA A f) x) → CM X S μ' A cr ci cb nr ty (upV V r j (V r j ++ [t])) U ni nu us' := sorry
theorem CM.endN (cm : CM X S μ A cr ci cb nr ty (upV V r j (V r j ++ [y])) U ni nu us) (hr : r < nr) (hj : j < fCt S (ty r)) (my : 2 ≤ S 11 (ty r) j) (hs : s = bsF S ty r + j) (hit : itm μ A s (V r j).length = it) (so : fSo (S 12 (ty r) j) = 0) :
    CM X S (ab_up μ (msA A 18) it v) A cr ci cb nr ty (upV V r j (V r j ++ [(y.1, y.2.1, v, [], 0)])) U ni nu us ∧ frM A μ (ab_up μ (msA A 18) it v) := sorry
theorem CM.endR {x : Nat} (cm : CM X S μ A cr ci cb nr ty (upV V r j (V r j ++ [y])) U ni nu us) (hr : r < nr) (hj : j < fCt S (ty r)) (my : 2 ≤ S 11 (ty r) j) (hs : s = bsF S ty r + j) (hit : itm μ A s (V r j).length = it) (so : fSo (S 12 (ty r) j) = 2) :
    CM X S (ab_up μ (msA A 21) it (x : Int)) A cr ci cb nr ty (upV V r j (V r j ++ [(y.1, y.2.1, 0, [], x)])) U ni nu us ∧ frM A μ (ab_up μ (msA A 21) it (x : Int)) := sorry
theorem CM.endT {a o : Nat} {l : List Int} (cm : CM X S μ A cr ci cb nr ty (upV V r j (V r j ++ [y])) U ni nu us) (hr : r < nr) (hj : j < fCt S (ty r)) (my : 2 ≤ S 11 (ty r) j) (hs : s = bsF S ty r + j) (hit : itm μ A s (V r j).length = it) (so : fSo (S 12 (ty r) j) = 1) (na : ¬ inM A a) (hb : cBy μ a o l) (hu : us + l.length ≤ cb) :
    CM X S (rtM μ A it us a o l.length) A cr ci cb nr ty (upV V r j (V r j ++ [(y.1, y.2.1, 0, l, 0)])) U ni nu (us + l.length) ∧ frM A μ (rtM μ A it us a o l.length) := sorry
theorem frKy.rt {a o m : Nat} (h33 : μ A 33 = us) : frKy A μ (rtM μ A it us a o m) := sorry
end Cl
end
section
section Cl
variable {μ μ' μ'' : ab_M} {d : Nat} {T : Nat → Int} {n : Nat} {S : SF} {N : NF} {A cr ci cb kS b ar L i0 u0 Ls Ls' : Nat} {σ σ' : Sg} {h h' h'' : He} {X : Rsv} {Vc Vc' Vc'' : Nat → Nat → List It} {r j e p q it us t s : Nat} {x0 : Nat × Nat × It} {Dp : Nat → Nat} {key : Int × List Int} {y : It}
theorem hIs_eq {v : Int} {l : List Int} (m2 : 2 ≤ S 11 (h.2.1 r) j ∧ S 11 (h.2.1 r) j ≤ 3) (hk : S 11 (h.2.1 r) j = 3 → kDp (S 14 (h.2.1 r) j) key.1 key.2 (h.2.2.1 r j) = []) (k0 : S 11 (h.2.1 r) j ≠ 3 → key = (0, [])) : hIs S N h r j key v l = (h.1, h.2.1, upV h.2.2.1 r j (h.2.2.1 r j ++ [(key.1, key.2, v, l, 0)]), h.2.2.2) := sorry
theorem hIr_eq {t' : Nat} (hr : r < h.1) (m2 : 2 ≤ S 11 (h.2.1 r) j ∧ S 11 (h.2.1 r) j ≤ 3) (h13 : S 13 (h.2.1 r) j = t') (hk : S 11 (h.2.1 r) j = 3 → kDp (S 14 (h.2.1 r) j) key.1 key.2 (h.2.2.1 r j) = []) (k0 : S 11 (h.2.1 r) j ≠ 3 → key = (0, [])) : hIr S h r j key = (h.1 + 1, upT h.2.1 h.1 t', upV (nwV h.2.2.1 h.1) r j (h.2.2.1 r j ++ [(key.1, key.2, 0, [], h.1)]), nwU h.2.2.2 h.1) := sorry
theorem c_lItem {rec : Rl} {D dp : Nat} (ih : PLd S N T n A kS b ar L rec) (ok : scOK S N) (hD : 4 * (12 - dp) + 10 ≤ D) (hdp : dp ≤ 12) (hm : isM A 2600 9000 12000) (cc : CLd S N T n A kS b ar L X i0 u0 μ p Ls (σ.1, σ.2.1 + 2, σ.2.2 + key.2.length) (upV Vc r j (Vc r j ++ [y]))) (hit : itm μ A s (Vc r j).length = it) (hs : s = bsF S σ.1.2.1 r + j) (hy : y.1 = key.1 ∧ y.2.1 = key.2) (ag : agr r σ.1 Vc) (i : hIn S σ.1 Dp) (hr : r < σ.1.1) (hj : j < fCt S (σ.1.2.1 r)) (m2 : 2 ≤ S 11 (σ.1.2.1 r) j ∧ S 11 (σ.1.2.1 r) j ≤ 3) (hd : Dp r = dp) (hp : p ≤ n) (hL : Ls ≤ 400) (hq2 : 2 * σ.1.1 ≤ 2 + σ.2.1) (z4 : σ.2.1 + 2 ≤ 4400) (z8 : σ.2.2 + key.2.length + (n - p) ≤ 8800)
    (kd : S 11 (σ.1.2.1 r) j = 3 → kDp (S 14 (σ.1.2.1 r) j) key.1 key.2 (σ.1.2.2.1 r j) = []) (k0 : S 11 (σ.1.2.1 r) j ≠ 3 → key = (0, [])) (kk : S 11 (σ.1.2.1 r) j = 3 → (lng key.1 ∧ byt key.2) ∧ (S 14 (σ.1.2.1 r) j ≠ 9 → key.2 = []) ∧ (S 14 (σ.1.2.1 r) j = 9 → key.1 = 0)) (no : lIv S N T n rec r j dp key p Ls σ ≠ .inl ovr) :
    cLz S N T n A kS b ar L (ab_run wc D 437 0 [(2, 1), (2, A), (0, it), (2, (fdA b (σ.1.2.1 r) j)), (0, dp)] [] μ) μ X i0 u0 r σ.1 Vc (lIv S N T n rec r j dp key p Ls σ) := sorry
end Cl
end
section
section Cl
variable {μ μ' μ'' : ab_M} {d : Nat} {T : Nat → Int} {n : Nat} {S : SF} {N : NF} {A cr ci cb kS b ar L i0 u0 Ls Ls' : Nat} {σ σ' : Sg} {h h' h'' : He} {X : Rsv} {Vc Vc' Vc'' : Nat → Nat → List It} {r j e p q it us t s : Nat} {x0 : Nat × Nat × It} {Dp : Nat → Nat} {key : Int × List Int} {y : It}
def kPn (μ : ab_M) (A : Nat) (k : Int) (x8 : Int) (x : Int × List Int) : Prop := ∃ (it u : Nat), x8 = it ∧ (it : Int) < μ A 17 ∧ (u : Int) ≤ μ A 33 ∧ cIt μ A u 0 (if k = 9 then 2 else 1) it (x.1, x.2, 0, [], hole) ∧ lng x.1
theorem kPn.to {k x8 : Int} (w : kPn μ A k x8 key) (f : frKy A μ μ') : kPn μ' A k x8 key := sorry
theorem CM.resH {nr : Nat} {ty : Nat → Nat} {V : Nat → Nat → List It} {U : Nat → List Un} {ni nu so : Nat} (c : CM X S μ A cr ci cb nr ty V U ni nu us) (hx : X it = some x0) : CM (upL X it (some (so, 0, (0, [], 0, [], hole)))) S μ A cr ci cb nr ty V U ni nu us := sorry
theorem c_lPut (hm : isM A 2600 9000 12000) (cc : CLd S N T n A kS b ar L X i0 u0 μ p Ls σ Vc) (hr : r < σ.1.1) (hj : j < fCt S (σ.1.2.1 r)) (m2 : S 11 (σ.1.2.1 r) j = 2) (k14 : S 14 (σ.1.2.1 r) j = -2) (hs : s = bsF S σ.1.2.1 r + j) (z4 : σ.2.1 + 2 ≤ 4400) :
    ∃ (it : Nat) (μ1 μ2 : ab_M), (ab_run wc (d + 1) 616 0 [(2, A)] [] μ) = some ((0, (it : Int)), μ1) ∧ (ab_run wc (d + 1) 611 0 [(2, A), (0, s), (0, it)] [] μ1) = some ((3, 0), μ2) ∧ itm μ2 A s (Vc r j).length = it ∧ CLd S N T n A kS b ar L X i0 u0 μ2 p Ls (σ.1, σ.2.1 + 2, σ.2.2) (upV Vc r j (Vc r j ++ [(0, [], 0, [], hole)])) ∧ frM A μ μ2 ∧ frKy A μ μ2 := sorry
theorem c_lIns {k v : Int} {l : List Int} {o : Nat} {ln : Int} (hm : isM A 2600 9000 12000) (cc : CLd S N T n A kS b ar L X i0 u0 μ p Ls σ Vc) (ag : agr r σ.1 Vc) (i : hIn S σ.1 Dp) (hr : r < σ.1.1) (hj : j < fCt S (σ.1.2.1 r)) (m3 : S 11 (σ.1.2.1 r) j = 3) (hk : S 14 (σ.1.2.1 r) j = k) (k1 : 1 ≤ k ∧ k ≤ 9) (hs : s = bsF S σ.1.2.1 r + j) (z4 : σ.2.1 + 2 ≤ 4400) (z8 : σ.2.2 + l.length ≤ 8800) (hl : kyA μ k ar o ln l) (vk : (lng v ∧ byt l) ∧ (k ≠ 9 → l = []) ∧ (k = 9 → v = 0)) (kd : kDp k v l (σ.1.2.2.1 r j) = []) :
    ∃ (it : Nat) (μ2 : ab_M), (ab_run wc (d + 5) 411 0 [(2, 1), (2, A), (0, s), (2, (200000 + k)), (1, v), (3, 0), (2, ar), (0, o), (0, ln), (3, 0), (3, 0), (3, 0)] [] μ) = some ((0, (it : Int)), μ2) ∧ itm μ2 A s (Vc r j).length = it ∧ CLd S N T n A kS b ar L X i0 u0 μ2 p Ls (σ.1, σ.2.1 + 2, σ.2.2 + l.length) (upV Vc r j (Vc r j ++ [kyI k v l])) ∧ kPn μ2 A k it (v, l) ∧ frM A μ μ2 ∧ frKy A μ μ2 := sorry
end Cl
end
section
section Cl
variable {μ μ' μ'' : ab_M} {d : Nat} {T : Nat → Int} {n : Nat} {S : SF} {N : NF} {A cr ci cb kS b ar L i0 u0 Ls Ls' : Nat} {σ σ' : Sg} {h h' h'' : He} {X : Rsv} {Vc Vc' Vc'' : Nat → Nat → List It} {r j e p q it us t s : Nat} {x0 : Nat × Nat × It} {Dp : Nat → Nat} {key : Int × List Int} {y : It}
theorem c_li27 {rec : Rl} {D dp c0 : Nat} (ih : PLd S N T n A kS b ar L rec) (hk : RlK S n rec) (ok : scOK S N) (hD : 4 * (12 - dp) + 10 ≤ D) (hdp : dp ≤ 12) (hm : isM A 2600 9000 12000) (hc0 : c0 ≤ 400) : ∀ (m : Nat) (last : Option (Int × List Int)) (x8 : Int) (x9 p Ls : Nat) (σ : Sg) (μ : ab_M) (Vc : Nat → Nat → List It) (Dp : Nat → Nat), CLd S N T n A kS b ar L X i0 u0 μ p Ls σ Vc → agr r σ.1 Vc → hIn S σ.1 Dp → r < σ.1.1 → j < fCt S (σ.1.2.1 r) → (2 ≤ S 11 (σ.1.2.1 r) j ∧ S 11 (σ.1.2.1 r) j ≤ 3) → Dp r = dp → p ≤ n → Ls ≤ 400 → x9 + m = c0 → s = bsF S σ.1.2.1 r + j → t = σ.1.2.1 r → (S 11 (σ.1.2.1 r) j = 3 → match last with
      | none => x8 < 0
      | some x => kPn μ A (S 14 (σ.1.2.1 r) j) x8 x) → lIm S N T n rec r j dp m last p Ls σ ≠ .inl ovr →
    cLz S N T n A kS b ar L (ab_run wc (D + 1) 438 27 [(2, 1), (2, A), (0, s), (2, (fdA b t j)), (0, dp), (3, 0), (1, c0), (3, 0), (0, x8), (0, x9), (3, 0), (3, 0), (3, 0), (3, 0)] [] μ) μ X i0 u0 r σ.1 Vc (lIm S N T n rec r j dp m last p Ls σ) := sorry
end Cl
end
section
section Cl
variable {μ μ' μ'' : ab_M} {d : Nat} {T : Nat → Int} {n : Nat} {S : SF} {N : NF} {A cr ci cb kS b ar L i0 u0 Ls Ls' : Nat} {σ σ' : Sg} {h h' h'' : He} {X : Rsv} {Vc Vc' Vc'' : Nat → Nat → List It} {r j e p q it us t s : Nat} {x0 : Nat × Nat × It} {Dp : Nat → Nat} {key : Int × List Int} {y : It}
theorem c_h4 (hm : isM A 2600 9000 12000) (c : CLd S N T n A kS b ar L X i0 u0 μ p Ls σ Vc) (hp : p ≤ n) : (∀ g, hgd T 4 n p = .inl g → RfLd (ab_run wc (d + 2) 407 0 [(2, 1), (0, 4), (3, 0), (3, 0), (3, 0)] [] μ) A μ g) ∧ ∀ u q, hgd T 4 n p = .inr (u, q) → ∃ μ1, (ab_run wc (d + 2) 407 0 [(2, 1), (0, 4), (3, 0), (3, 0), (3, 0)] [] μ) = some ((1, (u : Int)), μ1) ∧ CLd S N T n A kS b ar L X i0 u0 μ1 q Ls σ Vc ∧ frLc μ μ1 ∧ q ≤ n ∧ p + 4 = q ∧ u < 4294967296 := sorry
theorem c_lItems {rec : Rl} {D dp : Nat} (ih : PLd S N T n A kS b ar L rec) (hk : RlK S n rec) (ok : scOK S N) (hD : 4 * (12 - dp) + 11 ≤ D) (hdp : dp ≤ 12) (hm : isM A 2600 9000 12000) (cc : CLd S N T n A kS b ar L X i0 u0 μ p Ls σ Vc) (ag : agr r σ.1 Vc) (i : hIn S σ.1 Dp) (hr : r < σ.1.1) (hj : j < fCt S (σ.1.2.1 r)) (m2 : 2 ≤ S 11 (σ.1.2.1 r) j ∧ S 11 (σ.1.2.1 r) j ≤ 3) (hd : Dp r = dp) (hp : p ≤ n) (hL : Ls ≤ 400) (hs : s = bsF S σ.1.2.1 r + j) {R : Flt ⊕ (Nat × Nat × Sg)} (eR : R = match hgd T 4 n p with
    | .inl g => .inl g
    | .inr (u, q) => if 400 < Ls + u then .inl (7, (p : Int)) else lIm S N T n rec r j dp u none q (Ls + u) σ) (no : R ≠ .inl ovr) :
    cLz S N T n A kS b ar L (ab_run wc (D + 1) 438 0 [(2, 1), (2, A), (0, s), (2, (fdA b (σ.1.2.1 r) j)), (0, dp), (3, 0), (3, 0), (3, 0), (3, 0), (3, 0), (3, 0), (3, 0), (3, 0), (3, 0)] [] μ) μ X i0 u0 r σ.1 Vc R := sorry
theorem c_lOneI {rec : Rl} {D dp : Nat} (ih : PLd S N T n A kS b ar L rec) (ok : scOK S N) (hD : 4 * (12 - dp) + 11 ≤ D) (hdp : dp ≤ 12) (hm : isM A 2600 9000 12000) (cc : CLd S N T n A kS b ar L X i0 u0 μ p Ls σ Vc) (ag : agr r σ.1 Vc) (i : hIn S σ.1 Dp) (hr : r < σ.1.1) (hd : Dp r = dp) (hp : p ≤ n) (hL : Ls ≤ 400) (o : 0 ≤ S 15 (σ.1.2.1 r) j) (z4 : σ.2.1 + 2 ≤ 4400) (z8 : σ.2.2 + (n - p) ≤ 8800) (no : lOn S N T n rec r dp (S 15 (σ.1.2.1 r) j) p Ls σ ≠ .inl ovr) :
    cLz S N T n A kS b ar L (ab_run wc (D + 1) 441 0 [(2, 1), (2, A), (0, r), (2, (tyA b (σ.1.2.1 r))), (0, (S 15 (σ.1.2.1 r) j)), (0, dp), (3, 0), (3, 0), (3, 0), (3, 0)] [] μ) μ X i0 u0 r σ.1 Vc (lOn S N T n rec r dp (S 15 (σ.1.2.1 r) j) p Ls σ) := sorry
theorem c_lInto {rec : Rl} {D dp : Nat} (ih : PLd S N T n A kS b ar L rec) (hk : RlK S n rec) (ok : scOK S N) (hD : 4 * (12 - dp) + 13 ≤ D) (hdp : dp ≤ 12) (hm : isM A 2600 9000 12000) : ∀ (w j p Ls : Nat) (σ : Sg) (μ : ab_M) (Vc : Nat → Nat → List It) (Dp : Nat → Nat), CLd S N T n A kS b ar L X i0 u0 μ p Ls σ Vc → agr r σ.1 Vc → hIn S σ.1 Dp → r < σ.1.1 → j + w = fCt S (σ.1.2.1 r) → Dp r = dp → p ≤ n → Ls ≤ 400 → t = σ.1.2.1 r → lFs S N T n rec r dp w j p Ls σ ≠ .inl ovr →
    cLz S N T n A kS b ar L (ab_run wc D 436 11 [(2, 1), (2, A), (0, r), (0, dp), (2, (tyA b t)), (0, j), (3, 0)] [] μ) μ X i0 u0 r σ.1 Vc (lFs S N T n rec r dp w j p Ls σ) := sorry
theorem c_PLd (ok : scOK S N) (hT : ∀ k, k < n → 0 ≤ T k ∧ T k < 256) (hm : isM A 2600 9000 12000) : ∀ c, PLd S N T n A kS b ar L (lRec S N T n c) := sorry
end Cl
end
section
section Dc
variable {μ μ' μ'' : ab_M} {d : Nat} {S : SF} {N : NF} {s b t n ar L : Nat} {h : He} {T : Nat → Int} {D1 : Nat → Nat}
theorem frLd.rb (f : frLd 1255 μ μ') : frRb μ μ' := sorry
theorem lDc_in {S : SF} {N : NF} (ok : scOK S N) (hT : ∀ k, k < n → 0 ≤ T k ∧ T k < 256) (tO : (t : Int) < S 0 0 0 ∧ S 2 t 0 = 1) (e : lDc S N T n t = .inr h) : ∃ D1, hIn S h D1 ∧ D1 0 = 1 := sorry
theorem c_readBytes1 {D : Nat} (hD : 2620 ≤ D) (s4 : s < 4) (h10 : μ 10 s = b) (hb : isS b) (ok : scOK S N) (on : onOK S) (hc : cSc μ b S N) (tO : (t : Int) < S 0 0 0 ∧ S 2 t 0 = 1) (ha : wc_ar ar = (4, L)) (nl : n ≤ L) (L5 : L < 100000) (n4 : n ≤ 4000) (hx : ∀ k, k < n → 0 ≤ T k ∧ T k < 256 ∧ μ ar k = sg (T k)) (na : ¬ inM 1255 ar ∧ ar ≠ 1 ∧ ar ≠ 2) (lf : 0 ≤ μ 1 31)
    (tr : ∀ h, lDc S N T n t = .inr h → (0 ≤ vlS S h ∧ vlS S h < 1000000) ∧ (0 ≤ btS S h ∧ btS S h < 1000000000)) :
    RBc S N (ab_run wc ((D + 1)) 488 0 [(2, 1), (2, ar), (0, 0), (0, n), (0, s), (0, t), (0, 1)] [] μ) μ s b (lgR S (lDc S N T n t)) := sorry
end Dc
end
section
section Tl
variable {μ μ' μ'' : ab_M} {d : Nat} {S : SF} {N : NF} {m s n : Nat} {h h' : He} {al al' : Nat → Bool} {ε ε' : Nat → Nat} {uM pM r j e p q lv lv' t Ls : Nat} {X : RsvT} {F : Nat → Prop} {D : Nat → Nat} {v k : Int} {l : List Int} {T : Nat → Int} {σ σ' : Sg}
def frTl (lv : Nat) (μ μ' : ab_M) : Prop := ∀ a i, ¬ mine 12 a i → (7900 ≤ a → a ≤ 7905 → i < lv) → (a ≠ 7756 ∨ i ≠ 17 ∧ i ≠ 18 ∧ i ≠ 175 ∧ i ≠ 202 ∧ (i < 180 ∨ 192 < i)) → μ' a i = μ a i
theorem frTl.refl : frTl lv μ μ := sorry
theorem frTl.trans (f : frTl lv μ μ') (g : frTl lv μ' μ'') : frTl lv μ μ'' := sorry
theorem frTl.le (f : frTl lv μ μ') (l : lv' ≤ lv) : frTl lv' μ μ' := sorry
theorem frH.tl (f : frH 12 μ μ') : frTl lv μ μ' := sorry
theorem frTl.rt (f : frTl lv μ μ') : frRt μ μ' := sorry
def FtR (run : ab_R) (μ : ab_M) (f : Flt) : Prop := R0 run (fun v μ' => v = 0 ∧ μ' 7756 17 = f.1 ∧ μ' 7756 18 = f.2 ∧ frRt μ μ')
theorem FtR.to {run : ab_R} {f : Flt} (g : FtR run μ' f) (q : frRt μ μ') : FtR run μ f := sorry
theorem FtTd.rt {run : ab_R} {f : Flt} (g : FtTd run μ f) : FtR run μ f := sorry
theorem FtY.rt {run : ab_R} {f : Flt} (g : FtY run μ f) : FtR run μ f := sorry
theorem FtR.if0 {run : ab_R} {f : Flt} {g : Int → ab_M → ab_R} (h : FtR run μ f) (hg : ∀ μ, g 0 μ = some ((0, 0), μ)) : FtR (ab_cal run 0 (fun r1 μ1 => some ((4, r1), μ1)) g) μ f := sorry
def TSl (X : RsvT) (F : Nat → Prop) (S : SF) (N : NF) (T : Nat → Int) (n s : Nat) (μ : ab_M) (p Ls : Nat) (σ : Sg) (al : Nat → Bool) (ε : Nat → Nat) : Prop := TSd X F S N T n s μ p σ al ε ∧ μ 7756 179 = n ∧ μ 7756 202 = Ls
theorem tw_plainV {ty : Int} (x : TSe X F S N T n s μ p h al ε uM pM) (he : μ 7756 179 = n) (hr : r < h.1) (ha : al r = true) (k1 : 0 ≤ k) (k2 : k ≤ 11) (ht : k = 11 → ty = ((30 * s + t : Nat) : Int) ∧ (t : Int) < S 0 0 0 ∧ S 2 t 0 = 0) (hp : p ≤ n) (hu : pM + (n - p) ≤ 8800) :
    (∀ f, lvR S k t T n p = .inl f → FtR (ab_run wt (d + 5) 211 0 [(2, 7756), (0, k), (0, ty), (3, 0), (3, 0), (3, 0)] [] μ) μ f) ∧ ∀ v l q, lvR S k t T n p = .inr (v, l, q) → ∃ (μ' : ab_M) (fi : Nat), (ab_run wt (d + 5) 211 0 [(2, 7756), (0, k), (0, ty), (3, 0), (3, 0), (3, 0)] [] μ) = some ((0, 1), μ') ∧ μ' 7756 181 = v ∧ μ' 7756 191 = fi ∧ μ' 7756 192 = l.length ∧ fi + l.length ≤ pM + l.length ∧ tBy μ' 7879 (9000 * 12 + fi) l ∧ TSe X F S N T n s μ' q h al ε uM (pM + l.length) ∧ (∀ a i, (a ≠ 7756 ∨ i ≠ 180 ∧ i ≠ 181 ∧ i ≠ 191 ∧ i ≠ 192) → (a ≠ 7879 ∨ i < 9000 * 12 + pM ∨ 9000 * 12 + 9000 ≤ i) → (a ≠ 7868 ∨ i ≠ 12) → μ' a i = μ a i) := sorry
end Tl
end
section
section Tl
variable {μ μ' μ'' : ab_M} {d : Nat} {S : SF} {N : NF} {m s n : Nat} {h h' : He} {al al' : Nat → Bool} {ε ε' : Nat → Nat} {uM pM r j e p q lv lv' t Ls : Nat} {X : RsvT} {F : Nat → Prop} {D : Nat → Nat} {v k : Int} {l : List Int} {T : Nat → Int} {σ σ' : Sg} {A B : List It} {y : It}
def TDk (X : RsvT) (F : Nat → Prop) (S : SF) (N : NF) (m s : Nat) (μ : ab_M) (h : He) (al : Nat → Bool) (ε : Nat → Nat) (uM pM r j e : Nat) (A : List It) (y : It) (B : List It) : Prop := TS μ s S N ∧ (∃ W c uc own c1 c2 W1 W2, tH S μ m s h.1 al h.2.1 (upV h.2.2.1 r j (A ++ y :: B)) h.2.2.2 ε W c uc own uM pM ∧ rsvT X S μ m s h.1 al ε c uc uM pM ∧ c r = c1 ++ e :: c2 ∧ W r = W1 ++ (j, y) :: W2 ∧ c1.length = W1.length ∧ wV W1 j = A ∧ wV W2 j = B) ∧ TC S μ m h.1 al h.2.1 (upV h.2.2.1 r j (A ++ y :: B)) h.2.2.2 ∧ noOr S h.1 al h.2.1 (upV h.2.2.1 r j (A ++ y :: B)) F
theorem TDk.mv {pM' : Nat} (x : TDk X F S N m s μ h al ε uM pM r j e A y B) (f : ∀ a, 7863 ≤ a → a ≤ 7878 → a ≠ 7868 → ∀ i, μ' a i = μ a i) (fs : ∀ a, 7762 ≤ a → a ≤ 7861 → ∀ i, μ' a i = μ a i) (fp : ∀ i, 9000 * m ≤ i → i < 9000 * m + pM → μ' 7879 i = μ 7879 i) (hp : μ' 7868 m = pM') (h1 : pM ≤ pM') (h2 : pM' ≤ 9000) : TDk X F S N m s μ' h al ε uM pM' r j e A y B := sorry
theorem TDk.td (x : TDk X F S N m s μ h al ε uM pM r j e A y B) : TD X F S N m s μ (h.1, h.2.1, upV h.2.2.1 r j (A ++ y :: B), h.2.2.2) al ε uM pM := sorry
theorem TDk.fill {fi : Nat} (x : TDk X F S N m s μ h al ε uM pM r j e A y B) (hr : r < h.1) (ha : al r = true) (hj : j < fCt S (h.2.1 r)) (h12 : S 12 (h.2.1 r) j ≠ 12) (hy : y.2.2 = (0, [], 0)) (hl : fi + l.length ≤ pM) (hb : tBy μ 7879 (9000 * m + fi) l) :
    R3 (ab_run wt (d + 2) 60 0 [(2, 7756), (0, e), (1, v), (3, 0), (0, fi), (0, (l.length))] [] μ) (fun μ' => TD X F S N m s μ' (h.1, h.2.1, upV h.2.2.1 r j (A ++ (y.1, y.2.1, v, l, 0) :: B), h.2.2.2) al ε uM pM ∧ frH m μ μ' ∧ ∀ a i, 7876 ≤ a → a ≤ 7879 → μ' a i = μ a i) := sorry
end Tl
end
section
section Tl
variable {μ μ' μ'' : ab_M} {d : Nat} {S : SF} {N : NF} {m s n : Nat} {al : Nat → Bool} {ty : Nat → Nat} {V : Nat → Nat → List It} {U : Nat → List Un} {ε : Nat → Nat} {W : Nat → List We} {c uc : Nat → List Nat} {own : Nat → Nat} {uM pM r j : Nat}
theorem tH.pnk {X : RsvT} {t : It} {μ1 : ab_M} (h : tH S μ m s n al ty V U ε W c uc own uM pM) (ro : rsvT X S μ m s n al ε c uc uM pM) (hr : r < n) (ha : al r = true) (hu : uM < 4600) (hp : tPn S μ m s pM ε (ty r) j r (V r j) (c r) (W r) (4600 * m + uM) μ1)
    (f : ∀ a i, i ≠ 4600 * m + uM ∨ a < 7873 ∨ 7878 < a → (a ≠ 7866 ∨ i ≠ m) → μ' a i = μ1 a i) (hj : j < fCt S (ty r)) (g7 : fSo (S 12 (ty r) j) = 2 → t.2.2.2.2 < n ∧ al t.2.2.2.2 = true ∧ r < t.2.2.2.2)
    (g : μ' 7873 (4600 * m + uM) = t.2.2.1 ∧ tMx μ' m pM 7874 7875 (4600 * m + uM) t.2.2.2.1 ∧ μ' 7876 (4600 * m + uM) = t.1 ∧ tMx μ' m pM 7877 7878 (4600 * m + uM) t.2.1 ∧ (fSo (S 12 (ty r) j) = 2 → ε t.2.2.2.2 = 4600 * m + uM)) :
    ∃ c1 c2 W1 W2 own', (tH S μ' m s n al ty (upV V r j (V r j ++ [t])) U ε (upL W r (W1 ++ (j, t) :: W2)) (upL c r (c1 ++ (4600 * m + uM) :: c2)) uc own' (uM + 1) pM ∧ c1.length = W1.length ∧ wV W1 j = V r j ∧ wV W2 j = []) ∧ rsvT X S μ' m s n al ε (upL c r (c1 ++ (4600 * m + uM) :: c2)) uc (uM + 1) pM ∧ (∀ a i, ¬ mine m a i → μ' a i = μ a i) := sorry
end Tl
section Tm
variable {μ μ' μ'' : ab_M} {d : Nat} {S : SF} {N : NF} {m s n : Nat} {h h' : He} {al al' : Nat → Bool} {ε ε' : Nat → Nat} {uM pM r j e : Nat} {X : RsvT} {F : Nat → Prop}
theorem TD.link (x : TD X F S N m s μ h al ε uM pM) (hr : r < h.1) (ha : al r = true) (hj : j < fCt S (h.2.1 r)) (h12 : S 12 (h.2.1 r) j ≠ 12) (hu : uM < 4600) :
    (ab_run wt (d + 1) 171 0 [(2, 7756), (0, m), (0, (fX s (h.2.1 r) j)), (3, 0)] [] μ) = some ((0, ((4600 * m + uM : Nat) : Int)), neM μ m (fX s (h.2.1 r) j) (4600 * m + uM)) ∧ R3 (ab_run wt (d + 2) 226 0 [(2, 7756), (0, (ε r)), (0, (((4600 * m + uM : Nat) : Int))), (3, 0), (3, 0), (3, 0), (3, 0), (3, 0)] [] (neM μ m (fX s (h.2.1 r) j) (4600 * m + uM))) (fun μ' => TDk X F S N m s μ' h al ε (uM + 1) pM r j (4600 * m + uM) (h.2.2.1 r j) (0, [], 0, [], 0) [] ∧ frH m μ μ' ∧ ∀ a i, 7876 ≤ a → a ≤ 7879 → (a = 7879 ∨ i ≠ 4600 * m + uM) → μ' a i = μ a i) := sorry
end Tm
end
section
section Tl
variable {μ μ' μ'' : ab_M} {d lv : Nat} {x y : Int}
def orM (μ : ab_M) (lv : Nat) (x : Int) : ab_M := ab_up (ab_up (ab_up (ab_up (ab_up μ 7900 lv x) 7901 lv 0) 7902 lv (-2)) 7756 175 ((lv + 1 : Nat) : Int)) 7903 lv 0
theorem tw_openRead (hg : μ 7756 175 = lv) (l12 : lv ≤ 12) (hw : μ 7756 17 = 0) : (lv = 12 → FtR (ab_run wt (d + 2) 187 0 [(2, 7756), (0, x), (0, y)] [] μ) μ (6, y)) ∧ (lv ≠ 12 → (ab_run wt (d + 2) 187 0 [(2, 7756), (0, x), (0, y)] [] μ) = some ((0, 1), orM μ lv x)) := sorry
theorem orM_at {lv : Nat} : orM μ lv x 7756 175 = ((lv + 1 : Nat) : Int) ∧ orM μ lv x 7900 lv = x ∧ orM μ lv x 7901 lv = 0 ∧ orM μ lv x 7903 lv = 0 ∧ ∀ a i, (a ≠ 7756 ∨ i ≠ 175) → (a < 7900 ∨ 7903 < a ∨ i ≠ lv) → orM μ lv x a i = μ a i := sorry
end Tl
end
section
section Tl
variable {μ μ' μ'' : ab_M} {d : Nat} {S : SF} {N : NF} {m s n : Nat} {h h' : He} {al al' : Nat → Bool} {ε ε' : Nat → Nat} {uM pM r j e t : Nat} {X : RsvT} {F : Nat → Prop} {v z : Int} {l : List Int}
def TDf (X : RsvT) (F : Nat → Prop) (S : SF) (N : NF) (m s : Nat) (μ : ab_M) (h : He) (al : Nat → Bool) (ε : Nat → Nat) (uM pM t j e : Nat) (v : Int) (l : List Int) (z : Int) : Prop := TS μ s S N ∧ (∃ W c uc own, tH S μ m s h.1 al h.2.1 h.2.2.1 h.2.2.2 ε W c uc own uM pM ∧ rsvT X S μ m s h.1 al ε c uc uM pM ∧ 4600 * m < e ∧ e < 4600 * m + uM ∧ ∀ r', r' < h.1 → al r' = true → (e ∉ c r' ∧ e ∉ uc r') ∧ ε r' ≠ e) ∧ TC S μ m h.1 al h.2.1 h.2.2.1 h.2.2.2 ∧ noOr S h.1 al h.2.1 h.2.2.1 F ∧ X e = none ∧ (μ 7869 e = fX s t j ∧ μ 7871 e = -2 ∧ μ 7872 e = -2 ∧ μ 7873 e = z ∧ μ 7874 e = 0 ∧ μ 7875 e = 0) ∧ μ 7876 e = v ∧ tMx μ m pM 7877 7878 e l
theorem TDf.mv {pM' : Nat} (x : TDf X F S N m s μ h al ε uM pM t j e v l z) (f : ∀ a, 7863 ≤ a → a ≤ 7878 → a ≠ 7868 → ∀ i, μ' a i = μ a i) (fs : ∀ a, 7762 ≤ a → a ≤ 7861 → ∀ i, μ' a i = μ a i) (fp : ∀ i, 9000 * m ≤ i → i < 9000 * m + pM → μ' 7879 i = μ 7879 i) (hp : μ' 7868 m = pM') (h1 : pM ≤ pM') (h2 : pM' ≤ 9000) : TDf X F S N m s μ' h al ε uM pM' t j e v l z := sorry
theorem TD.fresh (x : TD X F S N m s μ h al ε uM pM) (hr : r < h.1) (ha : al r = true) (hu : uM < 4600) :
    (ab_run wt (d + 1) 171 0 [(2, 7756), (0, m), (0, (fX s t j)), (3, 0)] [] μ) = some ((0, ((4600 * m + uM : Nat) : Int)), neM μ m (fX s t j) (4600 * m + uM)) ∧ TDf X F S N m s (neM μ m (fX s t j) (4600 * m + uM)) h al ε (uM + 1) pM t j (4600 * m + uM) 0 [] 0 ∧ frH m μ (neM μ m (fX s t j) (4600 * m + uM)) := sorry
theorem TDf.key {v0 : Int} {l0 : List Int} {fi : Nat} (x : TDf X F S N m s μ h al ε uM pM t j e v0 l0 z) (hl : fi + l.length ≤ pM) (hb : tBy μ 7879 (9000 * m + fi) l) : TDf X F S N m s (ab_up (ab_up (ab_up μ 7876 e v) 7877 e (fi : Int)) 7878 e (l.length : Int)) h al ε uM pM t j e v l z := sorry
theorem TDf.num {z0 : Int} (x : TDf X F S N m s μ h al ε uM pM t j e v l z0) : TDf X F S N m s (ab_up μ 7873 e z) h al ε uM pM t j e v l z := sorry
theorem TDf.put {fi : Nat} (x : TDf X F S N m s μ h al ε uM pM (h.2.1 r) j e v l z) (hr : r < h.1) (ha : al r = true) (hj : j < fCt S (h.2.1 r)) (m3 : S 11 (h.2.1 r) j = 3) (h12 : S 12 (h.2.1 r) j ≠ 12) (hl : fi + l.length ≤ pM) (hb : tBy μ 7879 (9000 * m + fi) l) (vk : lng v ∧ byt l) (hv : ∀ x ∈ h.2.2.1 r j, byt x.2.1 ∧ lng x.1) (kd : kDp (S 14 (h.2.1 r) j) v l (h.2.2.1 r j) = []) :
    ∃ (c1 : List Nat) (μ1 : ab_M), (ab_run wt (d + 4) 135 0 [(2, 7756), (0, (ε r)), (0, (fX s (h.2.1 r) j)), (1, v), (3, 0), (0, fi), (0, (l.length)), (3, 0), (3, 0), (3, 0), (3, 0)] [] μ) = some ((0, lsI c1), μ1) ∧ R3 (ab_run wt (d + 2) 227 0 [(2, 7756), (0, (ε r)), (0, (lsI c1)), (0, e), (3, 0), (3, 0)] [] μ1) (fun μ' => TDk X F S N m s μ' h al ε uM pM r j e (h.2.2.1 r j) (v, l, z, [], 0) [] ∧ frH m μ μ' ∧ ∀ a i, 7876 ≤ a → a ≤ 7879 → μ' a i = μ a i) := sorry
end Tl
end
section
section Th
variable {μ μ' μ'' : ab_M} {d : Nat} {S : SF} {N : NF} {m s n : Nat} {al : Nat → Bool} {ty : Nat → Nat} {V V' : Nat → Nat → List It} {U : Nat → List Un} {ε : Nat → Nat} {W : Nat → List We} {c uc : Nat → List Nat} {own : Nat → Nat} {uM pM r j : Nat}
theorem tw_rmE {X : RsvT} (hr : r < n) (h : TMo X S μ m s n al ty V U ε uM pM) (ts : TS μ s S N) (ha : al r = true) (hv : V r j = []) : (ab_run wt (d + 2) 272 0 [(2, 7756), (0, (ε r)), (0, (fX s (ty r) j)), (3, 0)] [] μ) = some ((3, 0), μ) := sorry
theorem tw_leaveLE {X : RsvT} (hr : r < n) (hj : j < fCt S (ty r)) (h : TMo X S μ m s n al ty V U ε uM pM) (ts : TS μ s S N) (ha : al r = true) (hv : ∀ c, c < fCt S (ty r) → c ≠ j → S 15 (ty r) c = S 15 (ty r) j → V r c = []) : ∀ (k i : Nat), i + k = fCt S (ty r) → (ab_run wt (d + 3) 145 21 [(2, 7756), (0, (ε r)), (0, (fX s (ty r) j)), (0, (((30 * s + ty r : Nat) : Int))), (0, (((fX s (ty r) i : Nat) : Int)))] [] μ) = some ((3, 0), μ) := sorry
theorem tw_leaveE {X : RsvT} (hr : r < n) (hj : j < fCt S (ty r)) (h : TMo X S μ m s n al ty V U ε uM pM) (ts : TS μ s S N) (ha : al r = true) (hv : ∀ c, c < fCt S (ty r) → c ≠ j → 0 ≤ S 15 (ty r) j → S 15 (ty r) c = S 15 (ty r) j → V r c = []) : (ab_run wt (d + 3) 145 0 [(2, 7756), (0, (ε r)), (0, (fX s (ty r) j)), (3, 0), (3, 0)] [] μ) = some ((3, 0), μ) := sorry
end Th
end
section
section Tl
variable {μ μ' μ'' : ab_M} {d : Nat} {S : SF} {N : NF} {m s n : Nat} {h h' : He} {al al' : Nat → Bool} {ε ε' : Nat → Nat} {uM pM r j e t : Nat} {X : RsvT} {F : Nat → Prop} {v : Int} {l : List Int}
def frKt (m uM pM : Nat) (μ μ' : ab_M) : Prop := (∀ a i, 7876 ≤ a → a ≤ 7878 → i < 4600 * m + uM → μ' a i = μ a i) ∧ ∀ i, i < 9000 * m + pM → μ' 7879 i = μ 7879 i
theorem frKt.refl {uM pM : Nat} : frKt m uM pM μ μ := sorry
theorem frKt.trans {uM' pM' : Nat} (f : frKt m uM pM μ μ') (g : frKt m uM' pM' μ' μ'') (h1 : uM ≤ uM') (h2 : pM ≤ pM') : frKt m uM pM μ μ'' := sorry
theorem TD.setE {fi : Nat} (x : TD X F S N m s μ h al ε uM pM) (hr : r < h.1) (ha : al r = true) (hj : j < fCt S (h.2.1 r)) (lt2 : S 11 (h.2.1 r) j < 2) (h12 : S 12 (h.2.1 r) j ≠ 12) (hu : uM < 4600) (hl : fi + l.length ≤ pM) (hb : tBy μ 7879 (9000 * m + fi) l) (ve : h.2.2.1 r j = []) (hv : ∀ c, c < fCt S (h.2.1 r) → c ≠ j → 0 ≤ S 15 (h.2.1 r) j → S 15 (h.2.1 r) c = S 15 (h.2.1 r) j → h.2.2.1 r c = []) :
    R3 (ab_run wt (d + 6) 284 0 [(2, 7756), (0, (ε r)), (0, (fX s (h.2.1 r) j)), (1, v), (3, 0), (0, fi), (0, (l.length)), (3, 0), (3, 0), (3, 0)] [] μ) (fun μ' => ∃ uM', (uM ≤ uM' ∧ uM' ≤ uM + 1 ∧ uM' = uM + (if dfB S N (h.2.1 r) j v l = true then 0 else 1)) ∧ TD X F S N m s μ' (hSet S N h r j (0, []) v l) al ε uM' pM ∧ frH m μ μ' ∧ frKt m uM pM μ μ') := sorry
end Tl
end
section
section Tl
variable {μ μ' μ'' : ab_M} {d : Nat} {S : SF} {N : NF} {m s n : Nat} {h h' : He} {al al' : Nat → Bool} {ε ε' : Nat → Nat} {uM pM r j e t : Nat} {X : RsvT} {F : Nat → Prop} {v : Int} {l : List Int}
theorem TD.newG {t' : Nat} (x : TD X F S N m s μ h al ε uM pM) (hr : r < h.1) (ha : al r = true) (hj : j < fCt S (h.2.1 r)) (h12 : S 12 (h.2.1 r) j = 12) (h13 : S 13 (h.2.1 r) j = t') (tO : (t' : Int) < S 0 0 0 ∧ S 2 t' 0 = 1) (hu : uM < 4600) :
    (ab_run wt (d + 1) 171 0 [(2, 7756), (0, m), (0, (fX s (h.2.1 r) j)), (3, 0)] [] μ) = some ((0, ((4600 * m + uM : Nat) : Int)), neM μ m (fX s (h.2.1 r) j) (4600 * m + uM)) ∧ R3 (ab_run wt (d + 2) 226 0 [(2, 7756), (0, (ε r)), (0, (((4600 * m + uM : Nat) : Int))), (3, 0), (3, 0), (3, 0), (3, 0), (3, 0)] [] (neM μ m (fX s (h.2.1 r) j) (4600 * m + uM))) (fun μ' => TD X F S N m s μ' (h.1 + 1, upT h.2.1 h.1 t', upV (nwV h.2.2.1 h.1) r j (h.2.2.1 r j ++ [itR h.1]), nwU h.2.2.2 h.1) (upL al h.1 true) (upL ε h.1 (4600 * m + uM)) (uM + 1) pM ∧ frK m μ μ' ∧ frKt m uM pM μ μ') := sorry
theorem TD.entE {t' : Nat} (x : TD X F S N m s μ h al ε uM pM) (hr : r < h.1) (ha : al r = true) (hj : j < fCt S (h.2.1 r)) (lt2 : S 11 (h.2.1 r) j < 2) (h12 : S 12 (h.2.1 r) j = 12) (h13 : S 13 (h.2.1 r) j = t') (tO : (t' : Int) < S 0 0 0 ∧ S 2 t' 0 = 1) (hu : uM < 4600) (ve : h.2.2.1 r j = []) (hv : ∀ c, c < fCt S (h.2.1 r) → c ≠ j → 0 ≤ S 15 (h.2.1 r) j → S 15 (h.2.1 r) c = S 15 (h.2.1 r) j → h.2.2.1 r c = []) :
    R0 (ab_run wt (d + 6) 46 0 [(2, 7756), (0, (ε r)), (0, (fX s (h.2.1 r) j)), (3, 0)] [] μ) (fun v μ' => v = ((4600 * m + uM : Nat) : Int) ∧ TD X F S N m s μ' (hRec S h r j (0, [])) (upL al h.1 true) (upL ε h.1 (4600 * m + uM)) (uM + 1) pM ∧ frK m μ μ' ∧ frKt m uM pM μ μ') := sorry
end Tl
end
section
section Tl
variable {μ μ' μ'' : ab_M} {d : Nat} {S : SF} {N : NF} {m s n : Nat} {h h' : He} {al al' : Nat → Bool} {ε ε' : Nat → Nat} {uM pM r j e t : Nat} {X : RsvT} {F : Nat → Prop} {v : Int} {l : List Int}
theorem TDf.putR {fi t' : Nat} (x : TDf X F S N m s μ h al ε uM pM (h.2.1 r) j e v l 0) (hr : r < h.1) (ha : al r = true) (hj : j < fCt S (h.2.1 r)) (m3 : S 11 (h.2.1 r) j = 3) (h12 : S 12 (h.2.1 r) j = 12) (h13 : S 13 (h.2.1 r) j = t') (tO : (t' : Int) < S 0 0 0 ∧ S 2 t' 0 = 1) (hl : fi + l.length ≤ pM) (hb : tBy μ 7879 (9000 * m + fi) l) (vk : lng v ∧ byt l) (hv : ∀ x ∈ h.2.2.1 r j, byt x.2.1 ∧ lng x.1) (kd : kDp (S 14 (h.2.1 r) j) v l (h.2.2.1 r j) = []) :
    ∃ (c1 : List Nat) (μ1 : ab_M), (ab_run wt (d + 4) 135 0 [(2, 7756), (0, (ε r)), (0, (fX s (h.2.1 r) j)), (1, v), (3, 0), (0, fi), (0, (l.length)), (3, 0), (3, 0), (3, 0), (3, 0)] [] μ) = some ((0, lsI c1), μ1) ∧ R3 (ab_run wt (d + 2) 227 0 [(2, 7756), (0, (ε r)), (0, (lsI c1)), (0, e), (3, 0), (3, 0)] [] μ1) (fun μ' => TD X F S N m s μ' (hIr S h r j (v, l)) (upL al h.1 true) (upL ε h.1 e) uM pM ∧ frH m μ μ' ∧ ∀ a i, 7876 ≤ a → a ≤ 7879 → μ' a i = μ a i) := sorry
end Tl
end
section
section Tl
variable {μ μ' μ'' : ab_M} {d : Nat} {S : SF} {N : NF} {m s n : Nat} {h h' : He} {al al' : Nat → Bool} {ε ε' : Nat → Nat} {uM pM r j e p q lv lv' t Ls Ls' : Nat} {X : RsvT} {F : Nat → Prop} {D : Nat → Nat} {v k : Int} {l : List Int} {T : Nat → Int} {σ σ' : Sg}
abbrev tr1 : Nat → Bool := fun _ => true
theorem tr1_up {k : Nat} : upL tr1 k true = tr1 := sorry
def frKu (μ μ' : ab_M) : Prop := (∀ a i : Nat, 7876 ≤ a → a ≤ 7878 → (i : Int) < 55200 + μ 7867 12 → μ' a i = μ a i) ∧ (∀ i : Nat, (i : Int) < 108000 + μ 7868 12 → μ' 7879 i = μ 7879 i) ∧ μ 7867 12 ≤ μ' 7867 12 ∧ μ 7868 12 ≤ μ' 7868 12
theorem frKu.refl : frKu μ μ := sorry
theorem frKu.trans (f : frKu μ μ') (g : frKu μ' μ'') : frKu μ μ'' := sorry
theorem frKu.o (f : ∀ a i, 7863 ≤ a → a ≤ 7879 → μ' a i = μ a i) : frKu μ μ' := sorry
theorem frKt.ku {uM' pM' : Nat} (f : frKt 12 uM pM μ μ') (h1 : μ 7867 12 = uM) (h2 : μ 7868 12 = pM) (h3 : μ' 7867 12 = uM') (h4 : μ' 7868 12 = pM') (l1 : uM ≤ uM') (l2 : pM ≤ pM') : frKu μ μ' := sorry
theorem frKu.pl {pM' : Nat} (w : ∀ a i, (a ≠ 7756 ∨ i ≠ 180 ∧ i ≠ 181 ∧ i ≠ 191 ∧ i ≠ 192) → (a ≠ 7879 ∨ i < 9000 * 12 + pM ∨ 9000 * 12 + 9000 ≤ i) → (a ≠ 7868 ∨ i ≠ 12) → μ' a i = μ a i) (h2 : μ 7868 12 = pM) (h4 : μ' 7868 12 = pM') (l2 : pM ≤ pM') : frKu μ μ' := sorry
theorem TSl.mv (x : TSl X F S N T n s μ p Ls σ tr1 ε) (hr : r < σ.1.1) (f : ∀ a i, (a < 7900 ∨ 7905 < a) → (a ≠ 7756 ∨ i ≠ 175 ∧ i ≠ 180 ∧ i ≠ 181 ∧ i ≠ 191 ∧ i ≠ 192 ∧ i ≠ 202) → μ' a i = μ a i) (hp : μ' 7756 180 = q) (hl : μ' 7756 202 = Ls') : TSl X F S N T n s μ' q Ls' σ tr1 ε := sorry
theorem enumT (ts : TS μ s S N) (tt : (t : Int) < S 0 0 0 ∧ S 2 t 0 = 1) (hj : j < fCt S t) : S 12 t j = 11 → (if S 12 t j = 11 then 30 * (s : Int) + S 13 t j else -2) = ((30 * s + (S 13 t j).toNat : Nat) : Int) ∧ (((S 13 t j).toNat : Nat) : Int) < S 0 0 0 ∧ S 2 (S 13 t j).toNat 0 = 0 := sorry
theorem tw_lvS (x : TSl X F S N T n s μ p Ls σ tr1 ε) (hr : r < σ.1.1) (hj : j < fCt S (σ.1.2.1 r)) (lt2 : S 11 (σ.1.2.1 r) j < 2) (h12 : S 12 (σ.1.2.1 r) j ≠ 12) (hp : p ≤ n) (z4 : σ.2.1 + 2 ≤ 4400) (z8 : σ.2.2 + (n - p) ≤ 8800) (ve : σ.1.2.2.1 r j = []) (hv : ∀ c, c < fCt S (σ.1.2.1 r) → c ≠ j → 0 ≤ S 15 (σ.1.2.1 r) j → S 15 (σ.1.2.1 r) c = S 15 (σ.1.2.1 r) j → σ.1.2.2.1 r c = []) :
    (∀ g, lvR S (S 12 (σ.1.2.1 r) j) (S 13 (σ.1.2.1 r) j).toNat T n p = .inl g → FtR (ab_run wt (d + 7) 153 0 [(2, 7756), (0, 12), (0, (ε r)), (0, (fX s (σ.1.2.1 r) j)), (3, 0), (3, 0)] [] μ) μ g) ∧ ∀ v l q, lvR S (S 12 (σ.1.2.1 r) j) (S 13 (σ.1.2.1 r) j).toNat T n p = .inr (v, l, q) → ∃ μ', (ab_run wt (d + 7) 153 0 [(2, 7756), (0, 12), (0, (ε r)), (0, (fX s (σ.1.2.1 r) j)), (3, 0), (3, 0)] [] μ) = some ((0, 1), μ') ∧ TSl X F S N T n s μ' q Ls (hSet S N σ.1 r j (0, []) v l, σ.2.1 + 2, σ.2.2 + l.length) tr1 ε ∧ frTl 16 μ μ' ∧ μ' 7756 175 = μ 7756 175 ∧ frKu μ μ' := sorry
def nwF (μ : ab_M) (lv : Nat) (e : Nat) : Prop := μ 7756 175 = ((lv + 1 + 1 : Nat) : Int) ∧ μ 7900 (lv + 1) = e ∧ μ 7901 (lv + 1) = 0 ∧ μ 7903 (lv + 1) = 0
theorem frH.rt (f : frH 12 μ μ') : frRt μ μ' := sorry
theorem tw_oR {e0 : Nat} {y : Int} (x : TSl X F S N T n s μ p Ls σ tr1 ε) (hr : r < σ.1.1) (hg : μ 7756 175 = ((lv + 1 : Nat) : Int)) (l12 : lv + 1 ≤ 12) :
    (lv + 1 = 12 → FtR (ab_run wt (d + 2) 187 0 [(2, 7756), (0, e0), (0, y)] [] μ) μ (6, y)) ∧ (lv + 1 ≠ 12 → ∃ μ', (ab_run wt (d + 2) 187 0 [(2, 7756), (0, e0), (0, y)] [] μ) = some ((0, 1), μ') ∧ TSl X F S N T n s μ' p Ls σ tr1 ε ∧ nwF μ' lv e0 ∧ frTl (lv + 1) μ μ' ∧ frKu μ μ') := sorry
theorem tw_lvE (x : TSl X F S N T n s μ p Ls σ tr1 ε) (i : hIn S σ.1 D) (ok : scOK S N) (hr : r < σ.1.1) (hj : j < fCt S (σ.1.2.1 r)) (lt2 : S 11 (σ.1.2.1 r) j < 2) (h12 : S 12 (σ.1.2.1 r) j = 12) (z4 : σ.2.1 + 2 ≤ 4400) (ve : σ.1.2.2.1 r j = []) (hv : ∀ c, c < fCt S (σ.1.2.1 r) → c ≠ j → 0 ≤ S 15 (σ.1.2.1 r) j → S 15 (σ.1.2.1 r) c = S 15 (σ.1.2.1 r) j → σ.1.2.2.1 r c = []) (hg : μ 7756 175 = ((lv + 1 : Nat) : Int)) (l12 : lv + 1 ≤ 12) :
    (lv + 1 = 12 → FtR (ab_run wt (d + 7) 153 0 [(2, 7756), (0, 12), (0, (ε r)), (0, (fX s (σ.1.2.1 r) j)), (3, 0), (3, 0)] [] μ) μ (6, (p : Int))) ∧ (lv + 1 ≠ 12 → ∃ μ' e0, (ab_run wt (d + 7) 153 0 [(2, 7756), (0, 12), (0, (ε r)), (0, (fX s (σ.1.2.1 r) j)), (3, 0), (3, 0)] [] μ) = some ((0, 1), μ') ∧ TSl X F S N T n s μ' p Ls (hRec S σ.1 r j (0, []), σ.2.1 + 2, σ.2.2) tr1 (upL ε σ.1.1 e0) ∧ nwF μ' lv e0 ∧ frTl (lv + 1) μ μ' ∧ frKu μ μ') := sorry
end Tl
end
section
section Tl
variable {μ μ' μ'' : ab_M} {d : Nat} {S : SF} {N : NF} {m s n : Nat} {h h' : He} {al al' : Nat → Bool} {ε ε' : Nat → Nat} {uM pM r j e p q lv lv' t Ls Ls' : Nat} {X : RsvT} {F : Nat → Prop} {D : Nat → Nat} {v k : Int} {l : List Int} {T : Nat → Int} {σ σ' : Sg} {A : List It} {y : It}
def kTn (μ : ab_M) (e : Int) (x : Int × List Int) : Prop := ∃ i : Nat, e = i ∧ 55200 ≤ i ∧ (i : Int) < 55200 + μ 7867 12 ∧ μ 7876 i = x.1 ∧ ∃ f : Nat, μ 7877 i = f ∧ μ 7878 i = x.2.length ∧ (f : Int) + x.2.length ≤ μ 7868 12 ∧ tBy μ 7879 (9000 * 12 + f) x.2
theorem kTn.to {e : Int} {x : Int × List Int} (w : kTn μ e x) (f : frKu μ μ') : kTn μ' e x := sorry
theorem tw_cmpK {fi : Nat} {e : Int} {x : Int × List Int} (ts : TS μ s S N) (t1 : (t : Int) < S 0 0 0) (t2 : S 2 t 0 = 1) (m3 : S 11 t j = 3) (hj : j < fCt S t) (hu : μ 7867 12 = uM) (u4 : uM ≤ 4600) (hpl : μ 7868 12 = pM) (hp : pM ≤ 9000) (w : kTn μ e x) (hl : fi + l.length ≤ pM) (hb : tBy μ 7879 (9000 * 12 + fi) l) (b1 : byt x.2) (b2 : byt l) (v1 : lng x.1) (v2 : lng v) :
    (ab_run wt (d + 3) 26 0 [(2, 7756), (0, (fX s t j)), (0, e), (1, v), (3, 0), (0, 12), (0, fi), (0, (l.length)), (3, 0), (3, 0), (3, 0), (3, 0), (3, 0)] [] μ) = some ((0, kyC (S 14 t j) (x.1, x.2, 0, [], 0) v l), μ) := sorry
theorem TDf.td {z : Int} (x : TDf X F S N m s μ h al ε uM pM t j e v l z) : TD X F S N m s μ h al ε uM pM := sorry
theorem tw_li246S (k : TDk X F S N 12 s μ h tr1 ε uM pM r j e A y []) (t1 : tIn μ n T) (t2 : μ 7756 180 = q) (t3 : μ 7756 17 = 0) (he : μ 7756 179 = n) (hr : r < h.1) (hj : j < fCt S (h.2.1 r)) (h12 : S 12 (h.2.1 r) j ≠ 12) (hy : y.2.2 = (0, [], 0)) (hq : q ≤ n) (hu : pM + (n - q) ≤ 8800) (l16 : lv < 16) :
    (∀ g, lvR S (S 12 (h.2.1 r) j) (S 13 (h.2.1 r) j).toNat T n q = .inl g → FtR (ab_run wt (d + 8) 149 246 [(2, 7756), (3, 0), (3, 0), (0, (fX s (h.2.1 r) j)), (0, lv), (3, 0), (0, e), (3, 0), (3, 0)] [] μ) μ g) ∧ ∀ v l q', lvR S (S 12 (h.2.1 r) j) (S 13 (h.2.1 r) j).toNat T n q = .inr (v, l, q') → ∃ μ', (ab_run wt (d + 8) 149 246 [(2, 7756), (3, 0), (3, 0), (0, (fX s (h.2.1 r) j)), (0, lv), (3, 0), (0, e), (3, 0), (3, 0)] [] μ) = some ((0, 1), μ') ∧ TSe X F S N T n s μ' q' (h.1, h.2.1, upV h.2.2.1 r j (A ++ [(y.1, y.2.1, v, l, 0)]), h.2.2.2) tr1 ε uM (pM + l.length) ∧ μ' 7905 lv = e ∧ (∀ a i, ¬ mine 12 a i → (a ≠ 7905 ∨ i ≠ lv) → (a ≠ 7756 ∨ i ≠ 180 ∧ i ≠ 181 ∧ i ≠ 191 ∧ i ≠ 192) → μ' a i = μ a i) ∧ frKu μ μ' := sorry
theorem tw_li246R {f e0 : Nat} (x : TSl X F S N T n s μ q Ls σ tr1 ε) (hr : r < σ.1.1) (f36 : f < 3600) (kd : μ 7780 f = 12) (hg : μ 7756 175 = ((lv + 1 : Nat) : Int)) (l12 : lv + 1 ≤ 12) :
    (lv + 1 = 12 → FtR (ab_run wt (d + 8) 149 246 [(2, 7756), (3, 0), (3, 0), (0, f), (0, lv), (3, 0), (0, e0), (3, 0), (3, 0)] [] μ) μ (6, (q : Int))) ∧ (lv + 1 ≠ 12 → ∃ μ', (ab_run wt (d + 8) 149 246 [(2, 7756), (3, 0), (3, 0), (0, f), (0, lv), (3, 0), (0, e0), (3, 0), (3, 0)] [] μ) = some ((0, 1), μ') ∧ TSl X F S N T n s μ' q Ls σ tr1 ε ∧ nwF μ' lv e0 ∧ μ' 7905 lv = e0 ∧ (∀ a, 7900 ≤ a → a ≤ 7904 → μ' a lv = μ a lv) ∧ frTl lv μ μ' ∧ frKu μ μ') := sorry
def lKp (lv : Nat) (e : Nat) (μ μ' : ab_M) : Prop := μ' 7905 lv = e ∧ (∀ a, 7900 ≤ a → a ≤ 7904 → μ' a lv = μ a lv) ∧ frTl lv μ μ' ∧ frKu μ μ'
theorem lKp.pre (w : lKp lv e μ' μ'') (f : ∀ a i, ¬ mine 12 a i → (a ≠ 7756 ∨ i ≠ 180 ∧ i ≠ 181 ∧ i ≠ 191 ∧ i ≠ 192) → μ' a i = μ a i) (k : frKu μ μ') : lKp lv e μ μ'' := sorry
def tLi (S : SF) (N : NF) (T : Nat → Int) (n s : Nat) (X : RsvT) (F : Nat → Prop) (μ : ab_M) (run : ab_R) (lv r j Ls : Nat) (key : Int × List Int) (q : Nat) (σ : Sg) (ε : Nat → Nat) : Prop :=
  (S 12 (σ.1.2.1 r) j ≠ 12 → (∀ g, lvR S (S 12 (σ.1.2.1 r) j) (S 13 (σ.1.2.1 r) j).toNat T n q = .inl g → FtR run μ g) ∧ ∀ v l q', lvR S (S 12 (σ.1.2.1 r) j) (S 13 (σ.1.2.1 r) j).toNat T n q = .inr (v, l, q') → ∃ (μ' : ab_M) (e : Nat), run = some ((0, 1), μ') ∧ TSl X F S N T n s μ' q' Ls (hIs S N σ.1 r j key v l, σ.2.1 + 2, σ.2.2 + key.2.length + l.length) tr1 ε ∧ μ' 7756 175 = μ 7756 175 ∧ lKp lv e μ μ' ∧ (S 11 (σ.1.2.1 r) j = 3 → kTn μ' e key)) ∧
  (S 12 (σ.1.2.1 r) j = 12 → (lv + 1 = 12 → FtR run μ (6, (q : Int))) ∧ (lv + 1 ≠ 12 → ∃ (μ' : ab_M) (e : Nat), run = some ((0, 1), μ') ∧ TSl X F S N T n s μ' q Ls (hIr S σ.1 r j key, σ.2.1 + 2, σ.2.2 + key.2.length) tr1 (upL ε σ.1.1 e) ∧ nwF μ' lv e ∧ lKp lv e μ μ' ∧ (S 11 (σ.1.2.1 r) j = 3 → kTn μ' e key)))
theorem tw_liL (x : TSl X F S N T n s μ p Ls σ tr1 ε) (i : hIn S σ.1 D) (ok : scOK S N) (hr : r < σ.1.1) (hj : j < fCt S (σ.1.2.1 r)) (m2 : S 11 (σ.1.2.1 r) j = 2) (hp : p ≤ n) (z4 : σ.2.1 + 2 ≤ 4400) (z8 : σ.2.2 + (n - p) ≤ 8800) (u34 : σ.2.1 ≤ 3399) (hg : μ 7756 175 = ((lv + 1 : Nat) : Int)) (l12 : lv + 1 ≤ 12) :
    tLi S N T n s X F μ (ab_run wt (d + 8) 149 0 [(2, 7756), (0, 12), (0, (ε r)), (0, (fX s (σ.1.2.1 r) j)), (0, lv), (3, 0), (3, 0), (3, 0), (3, 0)] [] μ) lv r j Ls (0, []) p σ ε := sorry
end Tl
end
section
section Tl
variable {μ μ' μ'' : ab_M} {d : Nat} {S : SF} {N : NF} {m s n : Nat} {h h' : He} {al al' : Nat → Bool} {ε ε' : Nat → Nat} {uM pM r j e p q lv lv' t Ls Ls' : Nat} {X : RsvT} {F : Nat → Prop} {D : Nat → Nat} {v k : Int} {l : List Int} {T : Nat → Int} {σ σ' : Sg} {A : List It} {y : It}
def lsT (μ : ab_M) (e : Int) : Option (Int × List Int) → Prop
  | none => e < 0
  | some x => kTn μ e x ∧ byt x.2 ∧ lng x.1
theorem lsT.to {e : Int} {last : Option (Int × List Int)} (w : lsT μ e last) (f : frKu μ μ') : lsT μ' e last := sorry
theorem tw_liM {last : Option (Int × List Int)} (x : TSl X F S N T n s μ p Ls σ tr1 ε) (i : hIn S σ.1 D) (ok : scOK S N) (hr : r < σ.1.1) (hj : j < fCt S (σ.1.2.1 r)) (m3 : S 11 (σ.1.2.1 r) j = 3) (hp : p ≤ n) (z4 : σ.2.1 + 2 ≤ 4400) (z8 : σ.2.2 + (n - p) ≤ 8800) (u34 : σ.2.1 ≤ 3399) (hg : μ 7756 175 = ((lv + 1 : Nat) : Int)) (l12 : lv + 1 ≤ 12) (ls : lsT μ (μ 7905 lv) last) :
    (∀ g, lvR S (S 14 (σ.1.2.1 r) j) 0 T n p = .inl g → FtR (ab_run wt (d + 8) 149 0 [(2, 7756), (0, 12), (0, (ε r)), (0, (fX s (σ.1.2.1 r) j)), (0, lv), (3, 0), (3, 0), (3, 0), (3, 0)] [] μ) μ g) ∧ ∀ v l q, lvR S (S 14 (σ.1.2.1 r) j) 0 T n p = .inr (v, l, q) → (0 ≤ lsC (S 14 (σ.1.2.1 r) j) last v l → FtR (ab_run wt (d + 8) 149 0 [(2, 7756), (0, 12), (0, (ε r)), (0, (fX s (σ.1.2.1 r) j)), (0, lv), (3, 0), (3, 0), (3, 0), (3, 0)] [] μ) μ (9, (p : Int))) ∧ (¬ 0 ≤ lsC (S 14 (σ.1.2.1 r) j) last v l → kDp (S 14 (σ.1.2.1 r) j) v l (σ.1.2.2.1 r j) = [] → tLi S N T n s X F μ (ab_run wt (d + 8) 149 0 [(2, 7756), (0, 12), (0, (ε r)), (0, (fX s (σ.1.2.1 r) j)), (0, lv), (3, 0), (3, 0), (3, 0), (3, 0)] [] μ) lv r j Ls (v, l) q σ ε) := sorry
end Tl
end
section
section Tl
variable {μ μ' μ'' : ab_M} {d : Nat} {S : SF} {N : NF} {m s n : Nat} {h h' : He} {al al' : Nat → Bool} {ε ε' : Nat → Nat} {uM pM r j e p q lv lv' t Ls Ls' dp c : Nat} {X : RsvT} {F : Nat → Prop} {D : Nat → Nat} {v k : Int} {l : List Int} {T : Nat → Int} {σ σ' : Sg} {A : List It} {y : It} {rec : Rl}
def TLr (d : Nat) (S : SF) (N : NF) (T : Nat → Int) (n s c : Nat) (rec : Rl) : Prop := ∀ (X : RsvT) (F : Nat → Prop) (μ : ab_M) (r dp p Ls : Nat) (σ : Sg) (ε : Nat → Nat) (lv : Nat) (D : Nat → Nat), TSl X F S N T n s μ p Ls σ tr1 ε → hIn S σ.1 D → r < σ.1.1 → D r = dp → dp + c = 13 → p ≤ n → Ls ≤ 400 → lE S σ.1 r 0 → 2 * σ.2.1 + 4 * (400 - Ls) + (n - p) ≤ 5600 → σ.2.2 ≤ p → lv + 1 = dp → μ 7756 175 = ((lv + 1 : Nat) : Int) → (μ 7900 lv = ε r ∧ μ 7901 lv = 0 ∧ μ 7903 lv = 0) → rec r dp p Ls σ ≠ .inl ovr →
  (∀ g, rec r dp p Ls σ = .inl g → FtR (ab_run wt (d + 9) 253 29 [(2, 7756), (3, 0), (0, 12), (3, 0), (3, 0), (3, 0), (3, 0), (3, 0)] [] μ) μ g) ∧ ∀ p' L' σ', rec r dp p Ls σ = .inr (p', L', σ') → ∃ μ' ε', (ab_run wt (d + 9) 253 29 [(2, 7756), (3, 0), (0, 12), (3, 0), (3, 0), (3, 0), (3, 0), (3, 0)] [] μ) = (ab_run wt (d + 9) 253 29 [(2, 7756), (3, 0), (0, 12), (3, 0), (3, 0), (3, 0), (3, 0), (3, 0)] [] μ') ∧ TSl X F S N T n s μ' p' L' σ' tr1 ε' ∧ μ' 7756 175 = lv ∧ (∀ x, x < σ.1.1 → ε' x = ε x) ∧ frTl lv μ μ' ∧ frKu μ μ'
noncomputable abbrev lpL (d : Nat) (run : ab_R) : ab_R := ab_cal run 0 (fun r3 μ3 => some ((4, r3), μ3)) (fun r3 μ3 => if r3 = 0 then some ((0, 0), μ3) else (ab_run wt (d + 9) 253 29 [(2, 7756), (3, 0), (0, 12), (3, 0), (3, 0), (3, 0), (3, 0), (3, 0)] [] μ3))
theorem FtR.lp {run : ab_R} {f : Flt} (h : FtR run μ f) : FtR (lpL d run) μ f := sorry
theorem lpL_1 : lpL d (some ((0, 1), μ)) = (ab_run wt (d + 9) 253 29 [(2, 7756), (3, 0), (0, 12), (3, 0), (3, 0), (3, 0), (3, 0), (3, 0)] [] μ) := sorry
theorem tw_lIvT {key : Int × List Int} {run : ab_R} (ih : TLr d S N T n s c rec) (ok : scOK S N) (li : tLi S N T n s X F μ run lv r j Ls key q σ ε) (i : hIn S σ.1 D) (hr : r < σ.1.1) (hj : j < fCt S (σ.1.2.1 r)) (m2 : 2 ≤ S 11 (σ.1.2.1 r) j ∧ S 11 (σ.1.2.1 r) j ≤ 3) (hd : D r = dp) (hc : dp + c = 12) (hlv : lv + 1 = dp) (hq : q ≤ n) (hL : Ls ≤ 400) (b1 : 2 * σ.2.1 + 4 + 4 * (400 - Ls) + (n - q) ≤ 5600) (b2 : σ.2.2 + key.2.length ≤ q) (hg : μ 7756 175 = ((lv + 1 : Nat) : Int)) (kd : S 11 (σ.1.2.1 r) j = 3 → kDp (S 14 (σ.1.2.1 r) j) key.1 key.2 (σ.1.2.2.1 r j) = []) (kk : S 11 (σ.1.2.1 r) j = 3 → (lng key.1 ∧ byt key.2) ∧ (S 14 (σ.1.2.1 r) j ≠ 9 → key.2 = []) ∧ (S 14 (σ.1.2.1 r) j = 9 → key.1 = 0)) (no : lIv S N T n rec r j dp key q Ls σ ≠ .inl ovr) :
    (∀ g, lIv S N T n rec r j dp key q Ls σ = .inl g → FtR (lpL d run) μ g) ∧ ∀ q' L' σ', lIv S N T n rec r j dp key q Ls σ = .inr (q', L', σ') → ∃ (μ' : ab_M) (ε' : Nat → Nat) (e : Nat), lpL d run = (ab_run wt (d + 9) 253 29 [(2, 7756), (3, 0), (0, 12), (3, 0), (3, 0), (3, 0), (3, 0), (3, 0)] [] μ') ∧ TSl X F S N T n s μ' q' L' σ' tr1 ε' ∧ μ' 7756 175 = ((lv + 1 : Nat) : Int) ∧ lKp lv e μ μ' ∧ (S 11 (σ.1.2.1 r) j = 3 → kTn μ' e key) ∧ ∀ x, x < σ.1.1 → ε' x = ε x := sorry
theorem tw_lIm (ih : TLr d S N T n s c rec) (hn : RlN S n c rec) (hk : RlK S n rec) (ok : scOK S N) (hT : ∀ k, k < n → 0 ≤ T k ∧ T k < 256) (n4 : n ≤ 4000) (hc : dp + c = 12) (hlv : lv + 1 = dp) : ∀ (m : Nat) (last : Option (Int × List Int)) (p Ls : Nat) (σ : Sg) (μ : ab_M) (ε : Nat → Nat) (D : Nat → Nat), TSl X F S N T n s μ p Ls σ tr1 ε → hIn S σ.1 D → r < σ.1.1 → j < fCt S (σ.1.2.1 r) → (2 ≤ S 11 (σ.1.2.1 r) j ∧ S 11 (σ.1.2.1 r) j ≤ 3) → D r = dp → p ≤ n → Ls ≤ 400 → 2 * σ.2.1 + 4 * m + 4 * (400 - Ls) + (n - p) ≤ 5600 → σ.2.2 ≤ p → μ 7756 175 = ((lv + 1 : Nat) : Int) → (μ 7900 lv = ε r ∧ μ 7903 lv = m ∧ μ 7904 lv = fX s (σ.1.2.1 r) j) → (S 11 (σ.1.2.1 r) j = 3 → lsT μ (μ 7905 lv) last) → lIm S N T n rec r j dp m last p Ls σ ≠ .inl ovr →
    (∀ g, lIm S N T n rec r j dp m last p Ls σ = .inl g → FtR (ab_run wt (d + 9) 253 29 [(2, 7756), (3, 0), (0, 12), (3, 0), (3, 0), (3, 0), (3, 0), (3, 0)] [] μ) μ g) ∧ ∀ p' L' σ', lIm S N T n rec r j dp m last p Ls σ = .inr (p', L', σ') → ∃ μ' ε', (ab_run wt (d + 9) 253 29 [(2, 7756), (3, 0), (0, 12), (3, 0), (3, 0), (3, 0), (3, 0), (3, 0)] [] μ) = (ab_run wt (d + 9) 253 29 [(2, 7756), (3, 0), (0, 12), (3, 0), (3, 0), (3, 0), (3, 0), (3, 0)] [] μ') ∧ TSl X F S N T n s μ' p' L' σ' tr1 ε' ∧ μ' 7756 175 = ((lv + 1 : Nat) : Int) ∧ (μ' 7900 lv = ε r ∧ μ' 7903 lv = 0 ∧ μ' 7901 lv = μ 7901 lv) ∧ (∀ x, x < σ.1.1 → ε' x = ε x) ∧ frTl lv μ μ' ∧ frKu μ μ' := sorry
end Tl
end
section
section Tl
variable {μ μ' μ'' : ab_M} {d : Nat} {S : SF} {N : NF} {m s n : Nat} {h h' : He} {ε ε' : Nat → Nat} {uM pM r j e p q lv lv' t Ls Ls' dp c J K u : Nat} {X : RsvT} {F : Nat → Prop} {D : Nat → Nat} {v k : Int} {l : List Int} {T : Nat → Int} {σ σ' : Sg} {rec : Rl}
theorem tw_lo21 {x2 x6 : Int} (ts : TS μ s S N) (t1 : (t : Int) < S 0 0 0) (t2 : S 2 t 0 = 1) (hj : j < fCt S t) : ∀ (w k : Nat), k + w = fCt S t → j ≤ k → (∀ i, j ≤ i → i < k → S 15 t i = S 15 t j) → ∃ J, k ≤ J ∧ J ≤ fCt S t ∧ (∀ i, j ≤ i → i < J → S 15 t i = S 15 t j) ∧ (J < fCt S t → S 15 t J ≠ S 15 t j) ∧ (ab_run wt (d + 1) 152 21 [(2, 7756), (0, 12), (0, x2), (0, (((30 * s + t : Nat) : Int))), (0, (fX s t j)), (0, lv), (0, x6), (0, k), (0, j), (3, 0), (3, 0)] [] μ) = (ab_run wt (d + 1) 152 60 [(2, 7756), (0, 12), (0, x2), (0, (((30 * s + t : Nat) : Int))), (3, 0), (0, lv), (0, x6), (0, J), (0, j), (3, 0), (3, 0)] [] μ) := sorry
theorem tw_lo97 {x2 x6 x9 : Int} (ts : TS μ s S N) (t1 : (t : Int) < S 0 0 0) (t2 : S 2 t 0 = 1) (hJ : J ≤ fCt S t) (hgt : μ 7756 181 = u) : ∀ (w k : Nat), k + w = K → K ≤ J → (∀ i, k ≤ i → i < K → S 10 t i ≠ u) → (ab_run wt (d + 1) 152 97 [(2, 7756), (0, 12), (0, x2), (0, (((30 * s + t : Nat) : Int))), (3, 0), (3, 0), (0, x6), (0, J), (3, 0), (0, x9), (0, k)] [] μ) = (ab_run wt (d + 1) 152 97 [(2, 7756), (0, 12), (0, x2), (0, (((30 * s + t : Nat) : Int))), (3, 0), (3, 0), (0, x6), (0, J), (3, 0), (0, x9), (0, K)] [] μ) := sorry
theorem tw_lo97F {x2 : Int} (ts : TS μ s S N) (t1 : (t : Int) < S 0 0 0) (t2 : S 2 t 0 = 1) (hJ : J ≤ fCt S t) (hjJ : j ≤ J) (hgt : μ 7756 181 = u) (hw : μ 7756 17 = 0) :
    ((∀ i, j ≤ i → i < J → S 10 t i ≠ u) → FtR (ab_run wt (d + 2) 152 97 [(2, 7756), (0, 12), (0, x2), (0, (((30 * s + t : Nat) : Int))), (3, 0), (3, 0), (0, p), (0, J), (3, 0), (0, (-2)), (0, j)] [] μ) μ (8, (p : Int))) ∧ ∀ k, j ≤ k → k < J → S 10 t k = u → (∀ i, j ≤ i → i < J → S 10 t i = u → i = k) → (ab_run wt (d + 2) 152 97 [(2, 7756), (0, 12), (0, x2), (0, (((30 * s + t : Nat) : Int))), (3, 0), (3, 0), (0, p), (0, J), (3, 0), (0, (-2)), (0, j)] [] μ) = ab_cal (ab_run wt (d + 1) 153 0 [(2, 7756), (0, 12), (0, x2), (0, (fX s t k)), (3, 0), (3, 0)] [] μ) 0 (fun r2 μ2 => some ((4, r2), μ2)) (fun r2 μ2 => if r2 = 0 ∨ r2 = 1 then some ((0, r2), μ2) else none) := sorry
theorem lFs_sk : ∀ (w k K : Nat) (p L : Nat) (σ : Sg), k + w = fCt S (σ.1.2.1 r) → K ≤ fCt S (σ.1.2.1 r) → k ≤ K → 0 < k → (∀ i, k ≤ i → i < K → 0 ≤ S 15 (σ.1.2.1 r) i ∧ S 15 (σ.1.2.1 r) (i - 1) = S 15 (σ.1.2.1 r) i) → lFs S N T n rec r dp w k p L σ ≠ .inl ovr → lFs S N T n rec r dp w k p L σ = lFs S N T n rec r dp (fCt S (σ.1.2.1 r) - K) K p L σ := sorry
end Tl
end
section
section Tl
variable {μ μ' μ'' : ab_M} {d : Nat} {S : SF} {N : NF} {m s n : Nat} {h h' : He} {ε ε' : Nat → Nat} {uM pM r j e p q lv lv' t Ls Ls' dp c : Nat} {X : RsvT} {F : Nat → Prop} {D : Nat → Nat} {v k : Int} {l : List Int} {T : Nat → Int} {σ σ' : Sg} {rec : Rl}
def lKf (lv : Nat) (μ μ' : ab_M) : Prop := (∀ a, 7900 ≤ a → a ≤ 7904 → μ' a lv = μ a lv) ∧ frTl lv μ μ' ∧ frKu μ μ'
abbrev wrL (run : ab_R) : ab_R := ab_cal run 0 (fun r3 μ3 => some ((4, r3), μ3)) (fun r3 μ3 => if r3 = 0 ∨ r3 = 1 then some ((0, r3), μ3) else none)
theorem FtR.wr {run : ab_R} {f : Flt} (h : FtR run μ f) : FtR (wrL run) μ f := sorry
theorem wrL_1 : wrL (some ((0, 1), μ)) = some ((0, 1), μ) := sorry
theorem tw_lVlT (ih : TLr d S N T n s c rec) (ok : scOK S N) (x : TSl X F S N T n s μ p Ls σ tr1 ε) (i : hIn S σ.1 D) (hr : r < σ.1.1) (hj : j < fCt S (σ.1.2.1 r)) (lt2 : S 11 (σ.1.2.1 r) j < 2) (hd : D r = dp) (hc : dp + c = 12) (hlv : lv + 1 = dp) (hp : p ≤ n) (n4 : n ≤ 4000) (hL : Ls ≤ 400) (b1 : S 12 (σ.1.2.1 r) j = 12 → 2 * σ.2.1 + 4 + 4 * (400 - Ls) + (n - p) ≤ 5600) (b3 : σ.2.1 ≤ 2800) (b2 : σ.2.2 ≤ p) (hg : μ 7756 175 = ((lv + 1 : Nat) : Int)) (ve : σ.1.2.2.1 r j = []) (hv : ∀ c, c < fCt S (σ.1.2.1 r) → c ≠ j → 0 ≤ S 15 (σ.1.2.1 r) j → S 15 (σ.1.2.1 r) c = S 15 (σ.1.2.1 r) j → σ.1.2.2.1 r c = []) (no : lVl S N T n rec r dp j p Ls σ ≠ .inl ovr) :
    (∀ g, lVl S N T n rec r dp j p Ls σ = .inl g → FtR (lpL d (wrL (ab_run wt (d + 7) 153 0 [(2, 7756), (0, 12), (0, (ε r)), (0, (fX s (σ.1.2.1 r) j)), (3, 0), (3, 0)] [] μ))) μ g) ∧ ∀ q' L' σ', lVl S N T n rec r dp j p Ls σ = .inr (q', L', σ') → ∃ (μ' : ab_M) (ε' : Nat → Nat), lpL d (wrL (ab_run wt (d + 7) 153 0 [(2, 7756), (0, 12), (0, (ε r)), (0, (fX s (σ.1.2.1 r) j)), (3, 0), (3, 0)] [] μ)) = (ab_run wt (d + 9) 253 29 [(2, 7756), (3, 0), (0, 12), (3, 0), (3, 0), (3, 0), (3, 0), (3, 0)] [] μ') ∧ TSl X F S N T n s μ' q' L' σ' tr1 ε' ∧ μ' 7756 175 = ((lv + 1 : Nat) : Int) ∧ lKf lv μ μ' ∧ ∀ x, x < σ.1.1 → ε' x = ε x := sorry
theorem tw_f4 (x : TSl X F S N T n s μ p Ls σ tr1 ε) (hr : r < σ.1.1) (hp : p ≤ n) : (∀ g, hgd T 4 n p = .inl g → FtR (ab_run wt (d + 2) 71 0 [(2, 7756), (3, 0)] [] μ) μ g) ∧ ∀ u q, hgd T 4 n p = .inr (u, q) → ∃ μ', (ab_run wt (d + 2) 71 0 [(2, 7756), (3, 0)] [] μ) = some ((0, 1), μ') ∧ μ' 7756 181 = u ∧ TSl X F S N T n s μ' q Ls σ tr1 ε ∧ (q ≤ n ∧ q = p + 4 ∧ u < 4294967296) ∧ ∀ a i, (a ≠ 7756 ∨ i ≠ 180 ∧ i ≠ 181) → μ' a i = μ a i := sorry
end Tl
end
section
section Tl
variable {μ μ' μ'' : ab_M} {d : Nat} {S : SF} {N : NF} {m s n : Nat} {h h' : He} {ε ε' : Nat → Nat} {uM pM r j e p q lv lv' t Ls Ls' dp c : Nat} {X : RsvT} {F : Nat → Prop} {D : Nat → Nat} {v k : Int} {l : List Int} {T : Nat → Int} {σ σ' : Sg} {rec : Rl}
theorem fNo_no {f : Nat → Int} {q : Int} : ∀ (m i : Nat), fNo f q m i = -1 → ∀ k, i ≤ k → k < i + m → f k ≠ q := sorry
theorem tw_lFs (ih : TLr d S N T n s c rec) (hn : RlN S n c rec) (hk : RlK S n rec) (ok : scOK S N) (on : onOK S) (hT : ∀ k, k < n → 0 ≤ T k ∧ T k < 256) (n4 : n ≤ 4000) (hc : dp + c = 12) (hlv : lv + 1 = dp) (w j p Ls : Nat) (σ : Sg) (μ : ab_M) (ε : Nat → Nat) (D : Nat → Nat) (ts : TSl X F S N T n s μ p Ls σ tr1 ε) (i : hIn S σ.1 D) (hr : r < σ.1.1) (hj : j + w = fCt S (σ.1.2.1 r)) (hE : lE S σ.1 r j) (hd : D r = dp) (hp : p ≤ n) (hL : Ls ≤ 400) (b1 : 2 * σ.2.1 + 4 * (400 - Ls) + (n - p) ≤ 5600) (b2 : σ.2.2 ≤ p) (hg : μ 7756 175 = ((lv + 1 : Nat) : Int)) (hf : μ 7900 lv = ε r ∧ μ 7901 lv = j ∧ μ 7903 lv = 0) (nb : j < fCt S (σ.1.2.1 r) → 0 < j → 0 ≤ S 15 (σ.1.2.1 r) j → S 15 (σ.1.2.1 r) (j - 1) ≠ S 15 (σ.1.2.1 r) j) (no : lFs S N T n rec r dp w j p Ls σ ≠ .inl ovr) :
    (∀ g, lFs S N T n rec r dp w j p Ls σ = .inl g → FtR (ab_run wt (d + 9) 253 29 [(2, 7756), (3, 0), (0, 12), (3, 0), (3, 0), (3, 0), (3, 0), (3, 0)] [] μ) μ g) ∧ ∀ p' L' σ', lFs S N T n rec r dp w j p Ls σ = .inr (p', L', σ') → ∃ μ' ε', (ab_run wt (d + 9) 253 29 [(2, 7756), (3, 0), (0, 12), (3, 0), (3, 0), (3, 0), (3, 0), (3, 0)] [] μ) = (ab_run wt (d + 9) 253 29 [(2, 7756), (3, 0), (0, 12), (3, 0), (3, 0), (3, 0), (3, 0), (3, 0)] [] μ') ∧ TSl X F S N T n s μ' p' L' σ' tr1 ε' ∧ μ' 7756 175 = lv ∧ (∀ x, x < σ.1.1 → ε' x = ε x) ∧ frTl lv μ μ' ∧ frKu μ μ' := sorry
theorem tw_TLr (ok : scOK S N) (on : onOK S) (hT : ∀ k, k < n → 0 ≤ T k ∧ T k < 256) (n4 : n ≤ 4000) : ∀ c, TLr d S N T n s c (lRec S N T n c) := sorry
end Tl
end
section
section D1
variable {μ μ' μ'' : ab_M} {d : Nat} {s t n m rw k : Nat} {h : He} {T : Nat → Int} {fm : Int}
theorem tw_readFormat1 {S : SF} {N : NF} (ts : TS μ s S N) (g0 : S 99 0 0 = 0) (on : onOK S) (tO : (t : Int) < S 0 0 0 ∧ S 2 t 0 = 1) (c : tIn μ n T) (n4 : n ≤ 4000) (he : μ 7756 179 = n) : RBt S N (ab_run wt (d + 11) 250 0 [(2, 7756), (0, s), (0, t), (0, 1)] [] μ) μ s (lgR S (lDc S N T n t)) ∧ ∀ h, lDc S N T n t = .inr h → (0 ≤ vlS S h ∧ vlS S h < 1000000) ∧ (0 ≤ btS S h ∧ btS S h < 1000000000) := sorry
theorem lDc_tr {S : SF} {N : NF} {l : List Int} {t : Nat} (ts : TS μ s S N) (g0 : S 99 0 0 = 0) (on : onOK S) (c : tIn μ l.length (tpT l)) (n4 : l.length ≤ 4000) (tO : (t : Int) < S 0 0 0 ∧ S 2 t 0 = 1) : ∀ h, lDc S N (tpT l) l.length t = .inr h → (0 ≤ vlS S h ∧ vlS S h < 1000000) ∧ (0 ≤ btS S h ∧ btS S h < 1000000000) := sorry
section
variable {S : Nat → SF} {N : Nat → NF} {bs : Nat → Nat} {th : Nat → Int} {tp : List Int} {rows : Nat → List Int}
theorem tw_decode1 (s4 : s < 4) (r8 : rw < 8) (m12 : m < 12) (ts : tSs μ th S N) (nu : th s = 1 → nuOK (S s)) (gz : S s 99 0 0 = 0) (rz : rtZ μ m) (on : th s = 1 → onOK (S s)) (c : tR μ tp rows) (hb : ∀ x ∈ rows rw, 0 ≤ x ∧ x < 256) :
    R0 (ab_run wt (d + 12) 34 0 [(2, 7756), (0, s), (0, k), (0, 1), (0, rw), (0, m)] [] μ) (fun v μ' => if th s = 0 then v = -2 ∧ μ' = μ else if ¬ ((k : Int) < S s 0 0 0 ∧ S s 2 k 0 = 1) then v = -1 ∧ μ' = μ else frDt m μ μ' ∧ match lgR (S s) (lDc (S s) (N s) (tpT (rows rw)) (rows rw).length k) with
      | .inl f => v = w32 (-10 - f.1) ∧ μ' 7756 4 = f.2 ∧ ∀ a i, mine m a i → a ≠ 7756 → a ≠ 7880 → μ' a i = μ a i
      | .inr h => v = vlS (S s) h ∧ μ' 7862 m = 1 ∧ μ' 7756 4 = -2 ∧ ∃ h', mT (S s) (N s) μ' m s h' ∧ hEq (S s) h h') := sorry
theorem c_decode1 {D : Nat} (hD : 6000 ≤ D) (s4 : s < 4) (r8 : rw < 8) (m12 : m < 12) (cs : cSs μ bs th S N) (on : th s = 1 → onOK (S s)) (c : cR μ tp rows) (hb : ∀ x ∈ rows rw, 0 ≤ x ∧ x < 256) (lf : 0 ≤ μ 1 31) (tr : th s = 1 → (k : Int) < S s 0 0 0 → S s 2 k 0 = 1 → ∀ h, lDc (S s) (N s) (tpT (rows rw)) (rows rw).length k = .inr h → (0 ≤ vlS (S s) h ∧ vlS (S s) h < 1000000) ∧ (0 ≤ btS (S s) h ∧ btS (S s) h < 1000000000)) :
    R0 (ab_run wc ((D + 2)) 388 0 [(2, 1), (0, s), (0, k), (0, 1), (0, rw), (0, m), (3, 0)] [] μ) (fun v μ' => if th s = 0 then v = -2 ∧ μ' = μ else if ¬ ((k : Int) < S s 0 0 0 ∧ S s 2 k 0 = 1) then v = -1 ∧ μ' = μ else frDc m μ μ' ∧ match lgR (S s) (lDc (S s) (N s) (tpT (rows rw)) (rows rw).length k) with
      | .inl f => v = w32 (-10 - f.1) ∧ μ' 1 3 = f.2 ∧ ∀ a, inM (6314 + 27 * m) a → ∀ i, μ' a i = μ a i
      | .inr h => v = vlS (S s) h ∧ μ' (6314 + 27 * m) 0 = 1 ∧ μ' 1 3 = -2 ∧ ∃ h', mC (S s) (N s) μ' m s (bs s) h' ∧ hEq (S s) h h' ∧ mE (S s) h') := sorry
end
end D1
end
section
section Wd
variable {W W' : Nat → BitVec 64} {base at' n k b : Nat} {v : Int}
theorem and64_bv (x y : Int) : and64 x y = (BitVec.ofInt 64 x &&& BitVec.ofInt 64 y).toInt := sorry
theorem or64_bv (x y : Int) : or64 x y = (BitVec.ofInt 64 x ||| BitVec.ofInt 64 y).toInt := sorry
theorem xor64_bv (x y : Int) : xor64 x y = (BitVec.ofInt 64 x ^^^ BitVec.ofInt 64 y).toInt := sorry
theorem shl64_bv (x : Int) (hk : k < 64) : shl64 x (k : Int) = (BitVec.ofInt 64 x <<< k).toInt := sorry
theorem ushr64_bv (x : Int) (hk : k < 64) : ushr64 x (k : Int) = (BitVec.ofInt 64 x >>> k).toInt := sorry
def mkB (n : Nat) : BitVec 64 := BitVec.ofNat 64 (2 ^ n - 1)
theorem mkB_bit {i : Nat} : (mkB n).getLsbD i = (decide (i < 64) && decide (i < n)) := sorry
theorem mk_1 (hn : n < 63) : BitVec.ofInt 64 (w64 (shl64 1 (n : Int) - 1)) = mkB n := sorry
theorem mk_64 : BitVec.ofInt 64 (-1) = mkB 64 := sorry
def sbW (W : Nat → BitVec 64) (base at' n : Nat) (v : Int) : Nat → BitVec 64 := fun i => if i = base + at' / 64 then W i ||| ((BitVec.ofInt 64 v &&& mkB n) <<< (at' % 64)) else W i
def wSt (W : Nat → BitVec 64) (p : Nat) (x : BitVec 64) : Nat → BitVec 64 := fun i => if i = p then x else W i
def nwW (W : Nat → BitVec 64) (c n : Nat) : Nat → BitVec 64 := fun i => if c ≤ i ∧ i < c + n then 0 else W i
theorem wSt_eq {p : Nat} {x : BitVec 64} : wSt W p x p = x := sorry
theorem wSt_ne {p i : Nat} {x : BitVec 64} (h : i ≠ p) : wSt W p x i = W i := sorry
theorem sbW_ne {i : Nat} (h : i ≠ base + at' / 64) : sbW W base at' n v i = W i := sorry
theorem nwW_o {c i : Nat} (h : i < c ∨ c + n ≤ i) : nwW W c n i = W i := sorry
theorem nwW_i {c i : Nat} (h : c ≤ i) (h2 : i < c + n) : nwW W c n i = 0 := sorry
def tbW (W : Nat → BitVec 64) (base b : Nat) : Bool := (W (base + b / 64)).getLsbD (b % 64)
theorem sbW_bit (h : at' % 64 + n ≤ 64) : tbW (sbW W base at' n v) base b = (tbW W base b || (decide (at' ≤ b) && decide (b < at' + n) && (BitVec.ofInt 64 v).getLsbD (b - at'))) := sorry
theorem sb_rep {w x : BitVec 64} {s : Nat} (h : s + n ≤ 64) (hz : ∀ i, s ≤ i → i < s + n → w.getLsbD i = false) : (w &&& ~~~ (mkB n <<< s)) ||| ((x &&& mkB n) <<< s) = w ||| ((x &&& mkB n) <<< s) := sorry
end Wd
end
section
section Sw
variable {S : SF} {h : He} {Q : Nat → Nat → (Nat → BitVec 64) × Nat → (Nat → BitVec 64) × Nat}
abbrev Wr := (Nat → BitVec 64) × Nat
def dsW (p t : Nat) : BitVec 64 := BitVec.ofInt 64 (((t : Int) - (p : Int) - 1) * 4 % 4294967296)
def ptW (p t a b : Nat) : BitVec 64 := (dsW p t ||| (BitVec.ofNat 64 a <<< 32)) ||| (BitVec.ofNat 64 b <<< 48)
def lsW (p t s n : Nat) : BitVec 64 := (((1 : BitVec 64) ||| dsW p t) ||| (BitVec.ofNat 64 s <<< 32)) ||| (BitVec.ofNat 64 n <<< 35)
def tgW (n a b : Nat) : BitVec 64 := ((BitVec.ofNat 64 n <<< 2) ||| (BitVec.ofNat 64 a <<< 32)) ||| (BitVec.ofNat 64 b <<< 48)
def wBy (base : Nat) : Nat → List Int → (Nat → BitVec 64) → (Nat → BitVec 64)
  | _, [], W => W
  | k, x :: l, W => wBy base (k + 1) l (sbW W base (8 * k) 8 x)
def szB (k : Int) (l : List Int) : Nat := if k = 9 then l.length + 1 else l.length
def slB (k : Int) (p : Nat) (l : List Int) (w : Wr) : Wr := (wBy w.2 0 l (wSt (nwW w.1 w.2 ((szB k l + 7) / 8)) p (lsW p w.2 2 (szB k l))), w.2 + (szB k l + 7) / 8)
def tgN (S : SF) (t j : Nat) : Nat → Nat → Nat
  | 0, _ => 0
  | m + 1, k => (if S 15 t k = S 15 t j ∧ S 10 t k < S 10 t j then 1 else 0) + tgN S t j m (k + 1)
def tgO (S : SF) (t j : Nat) : Nat := 1 + tgN S t j (fCt S t) 0
noncomputable def sdJ (S : SF) (t base j : Nat) (l : List It) (W : Nat → BitVec 64) : Nat → BitVec 64 := match l with
  | [] => W
  | q :: _ => if 2 ≤ S 11 t j then W else if 0 ≤ S 15 t j then (if S 16 t j < 0 then sbW W base (S 18 t j).toNat 16 (tgO S t j) else sbW (sbW W base (S 18 t j).toNat 16 (tgO S t j)) base (S 16 t j).toNat 64 q.2.2.1)
    else (if S 16 t j < 0 then (if S 18 t j < 0 then W else sbW W base (S 18 t j).toNat 1 1) else sbW (if S 18 t j < 0 then W else sbW W base (S 18 t j).toNat 1 1) base (S 16 t j).toNat (kBits (S 12 t j)).toNat (if S 11 t j = 0 then xor64 q.2.2.1 (S 19 t j) else q.2.2.1))
noncomputable def sdF (S : SF) (t base : Nat) (v : Nat → List It) : Nat → Nat → (Nat → BitVec 64) → (Nat → BitVec 64)
  | 0, _, W => W
  | m + 1, j, W => sdF S t base v m (j + 1) (sdJ S t base j (v j) W)
noncomputable def sdR (S : SF) (h : He) (r base : Nat) (W : Nat → BitVec 64) : Nat → BitVec 64 := sdF S (h.2.1 r) base (h.2.2.1 r) (fCt S (h.2.1 r)) 0 W
def slN (base b : Nat) : Nat → List It → (Nat → BitVec 64) → (Nat → BitVec 64)
  | _, [], W => W
  | k, q :: l, W => slN base b (k + 1) l (sbW W base (k * b) b q.2.2.1)
def slT (kind : Int) (base : Nat) : Nat → List It → Wr → Wr
  | _, [], w => w
  | k, q :: l, w => slT kind base (k + 1) l (if q.2.2.2.1 = [] then w else slB kind (base + k) q.2.2.2.1 w)
noncomputable def sdL (S : SF) (h : He) (each : Nat) : Nat → List It → (Nat → BitVec 64) → (Nat → BitVec 64)
  | _, [], W => W
  | p, q :: l, W => sdL S h each (p + each) l (sdR S h q.2.2.2.2 p W)
def spL (Q : Nat → Nat → Wr → Wr) (each : Nat) : Nat → List It → Wr → Wr
  | _, [], w => w
  | p, q :: l, w => spL Q each (p + each) l (Q q.2.2.2.2 p w)
noncomputable def slR (S : SF) (h : He) (Q : Nat → Nat → Wr → Wr) (r p : Nat) (w : Wr) : Wr := Q r (w.2 + (S 5 (h.2.1 r) 0).toNat) (sdR S h r w.2 (wSt (nwW w.1 w.2 ((S 5 (h.2.1 r) 0).toNat + (S 6 (h.2.1 r) 0).toNat)) p (ptW p (if (S 5 (h.2.1 r) 0).toNat + (S 6 (h.2.1 r) 0).toNat = 0 then p else w.2) (S 5 (h.2.1 r) 0).toNat (S 6 (h.2.1 r) 0).toNat)), w.2 + ((S 5 (h.2.1 r) 0).toNat + (S 6 (h.2.1 r) 0).toNat))
noncomputable def mpS (S : SF) (t j : Nat) : Nat := if (kBits (S 14 t j)).toNat = 0 then 0 else ((kBits (S 14 t j)).toNat + (kBits (S 12 t j)).toNat - 1) / (kBits (S 12 t j)).toNat * (kBits (S 12 t j)).toNat
noncomputable def mpA (S : SF) (t j : Nat) : Nat := (max (kBits (S 14 t j)).toNat (if (kBits (S 12 t j)).toNat = 0 then 0 else mpS S t j + (kBits (S 12 t j)).toNat) + 63) / 64
noncomputable def mpB (S : SF) (t j : Nat) : Nat := (if (kBits (S 14 t j)).toNat = 0 then 1 else 0) + (if (kBits (S 12 t j)).toNat = 0 then 1 else 0)
noncomputable def smJ (S : SF) (t j p : Nat) (q : It) (W : Nat → BitVec 64) : Nat → BitVec 64 := if (kBits (S 12 t j)).toNat = 0 then (if (kBits (S 14 t j)).toNat = 0 then W else sbW W p 0 (kBits (S 14 t j)).toNat q.1) else sbW (if (kBits (S 14 t j)).toNat = 0 then W else sbW W p 0 (kBits (S 14 t j)).toNat q.1) p (mpS S t j) (kBits (S 12 t j)).toNat q.2.2.1
noncomputable def smL (S : SF) (t j each : Nat) : Nat → List It → (Nat → BitVec 64) → (Nat → BitVec 64)
  | _, [], W => W
  | p, q :: l, W => smL S t j each (p + each) l (smJ S t j p q W)
noncomputable def smK (S : SF) (t j p : Nat) (q : It) (w : Wr) : Wr := if S 14 t j = 9 ∧ q.2.1 ≠ [] then slB 9 p q.2.1 w else w
noncomputable def smI (S : SF) (h : He) (Q : Nat → Nat → Wr → Wr) (t j p : Nat) (q : It) (w : Wr) : Wr := if S 12 t j = 12 then slR S h Q q.2.2.2.2 p w else if (S 12 t j = 9 ∨ S 12 t j = 10) ∧ q.2.2.2.1 ≠ [] then slB (S 12 t j) p q.2.2.2.1 w else w
noncomputable def smP (S : SF) (h : He) (Q : Nat → Nat → Wr → Wr) (t j each : Nat) : Nat → List It → Wr → Wr
  | _, [], w => w
  | p, q :: l, w => smP S h Q t j each (p + each) l (smI S h Q t j (if S 14 t j = 9 then p + 1 else p) q (smK S t j p q w))
def slH (p n a b : Nat) (w : Wr) : Nat → BitVec 64 := wSt (wSt (nwW w.1 w.2 (1 + n * (a + b))) p (lsW p w.2 7 (n * (a + b)))) w.2 (tgW n a b)
noncomputable def slI (S : SF) (h : He) (Q : Nat → Nat → Wr → Wr) (t j p : Nat) (l : List It) (w : Wr) : Wr :=
  if S 11 t j = 3 then smP S h Q t j (mpA S t j + mpB S t j) (w.2 + 1 + mpA S t j) l (smL S t j (mpA S t j + mpB S t j) (w.2 + 1) l (slH p l.length (mpA S t j) (mpB S t j) w), w.2 + (1 + l.length * (mpA S t j + mpB S t j)))
  else if S 12 t j = 12 then spL Q ((S 5 (S 13 t j).toNat 0).toNat + (S 6 (S 13 t j).toNat 0).toNat) (w.2 + 1 + (S 5 (S 13 t j).toNat 0).toNat) l (sdL S h ((S 5 (S 13 t j).toNat 0).toNat + (S 6 (S 13 t j).toNat 0).toNat) (w.2 + 1) l (slH p l.length (S 5 (S 13 t j).toNat 0).toNat (S 6 (S 13 t j).toNat 0).toNat w), w.2 + (1 + l.length * ((S 5 (S 13 t j).toNat 0).toNat + (S 6 (S 13 t j).toNat 0).toNat)))
  else if S 12 t j = 9 ∨ S 12 t j = 10 then slT (S 12 t j) w.2 0 l (wSt (nwW w.1 w.2 ((l.length * 64 + 63) / 64)) p (lsW p w.2 6 l.length), w.2 + (l.length * 64 + 63) / 64)
  else (slN w.2 (kBits (S 12 t j)).toNat 0 l (wSt (nwW w.1 w.2 ((l.length * (kBits (S 12 t j)).toNat + 63) / 64)) p (lsW p w.2 (kSort (S 12 t j)).toNat l.length)), w.2 + (l.length * (kBits (S 12 t j)).toNat + 63) / 64)
noncomputable def spJ (S : SF) (h : He) (Q : Nat → Nat → Wr → Wr) (t base p j : Nat) (l : List It) (w : Wr) : Wr := match l with
  | [] => w
  | q :: l' => if S 17 t j ≠ (p : Int) then w else if 2 ≤ S 11 t j then slI S h Q t j (base + p) (q :: l') w else if S 12 t j = 12 then slR S h Q q.2.2.2.2 (base + p) w else if S 11 t j = 0 ∨ q.2.2.2.1 ≠ [] then slB (S 12 t j) (base + p) q.2.2.2.1 w else w
noncomputable def spF (S : SF) (h : He) (Q : Nat → Nat → Wr → Wr) (t base p : Nat) (v : Nat → List It) : Nat → Nat → Wr → Wr
  | 0, _, w => w
  | m + 1, j, w => spF S h Q t base p v m (j + 1) (spJ S h Q t base p j (v j) w)
noncomputable def spP (S : SF) (h : He) (Q : Nat → Nat → Wr → Wr) (t base : Nat) (v : Nat → List It) : Nat → Nat → Wr → Wr
  | 0, _, w => w
  | m + 1, p, w => spP S h Q t base v m (p + 1) (spF S h Q t base p v (fCt S t) 0 w)
noncomputable def slQ (S : SF) (h : He) : Nat → Nat → Nat → Wr → Wr
  | 0 => fun _ _ w => w
  | f + 1 => fun r base w => spP S h (slQ S h f) (h.2.1 r) base (h.2.2.1 r) (S 6 (h.2.1 r) 0).toNat 0 w
noncomputable def slM (S : SF) (h : He) : Wr := slR S h (slQ S h h.1) 0 0 (fun _ => 0, 1)
theorem slB_le {k : Int} {p : Nat} {l : List Int} {w : Wr} : w.2 ≤ (slB k p l w).2 := sorry
theorem slT_le {kind : Int} {base : Nat} : ∀ (l : List It) (k : Nat) (w : Wr), w.2 ≤ (slT kind base k l w).2 := sorry
theorem spL_le {each : Nat} (hQ : ∀ r p w, w.2 ≤ (Q r p w).2) : ∀ (l : List It) (p : Nat) (w : Wr), w.2 ≤ (spL Q each p l w).2 := sorry
theorem slR_le {r p : Nat} {w : Wr} (hQ : ∀ r p w, w.2 ≤ (Q r p w).2) : w.2 + ((S 5 (h.2.1 r) 0).toNat + (S 6 (h.2.1 r) 0).toNat) ≤ (slR S h Q r p w).2 := sorry
theorem smK_le {t j p : Nat} {q : It} {w : Wr} : w.2 ≤ (smK S t j p q w).2 := sorry
theorem smI_le {t j p : Nat} {q : It} {w : Wr} (hQ : ∀ r p w, w.2 ≤ (Q r p w).2) : w.2 ≤ (smI S h Q t j p q w).2 := sorry
theorem smP_le {t j each : Nat} (hQ : ∀ r p w, w.2 ≤ (Q r p w).2) : ∀ (l : List It) (p : Nat) (w : Wr), w.2 ≤ (smP S h Q t j each p l w).2 := sorry
theorem slI_le {t j p : Nat} {l : List It} {w : Wr} (hQ : ∀ r p w, w.2 ≤ (Q r p w).2) : w.2 ≤ (slI S h Q t j p l w).2 := sorry
theorem spJ_le {t base p j : Nat} {l : List It} {w : Wr} (hQ : ∀ r p w, w.2 ≤ (Q r p w).2) : w.2 ≤ (spJ S h Q t base p j l w).2 := sorry
theorem spF_le {t base p : Nat} {v : Nat → List It} (hQ : ∀ r p w, w.2 ≤ (Q r p w).2) : ∀ (m j : Nat) (w : Wr), w.2 ≤ (spF S h Q t base p v m j w).2 := sorry
theorem spP_le {t base : Nat} {v : Nat → List It} (hQ : ∀ r p w, w.2 ≤ (Q r p w).2) : ∀ (m p : Nat) (w : Wr), w.2 ≤ (spP S h Q t base v m p w).2 := sorry
theorem slQ_le : ∀ (f r p : Nat) (w : Wr), w.2 ≤ (slQ S h f r p w).2 := sorry
end Sw
end
section
section Cw
variable {μ μ' μ'' : ab_M} {d n p t k : Nat} {w w' w1 w2 : Wr} {v : Int} {l : List Int}
def frWd (μ μ' : ab_M) : Prop := ∀ a i, a ≠ 1314 → a ≠ 2 → (a ≠ 1 ∨ i ≠ 35 ∧ i ≠ 36 ∧ i ≠ 37 ∧ i ≠ 38 ∧ i ≠ 39) → μ' a i = μ a i
theorem frWd.refl : frWd μ μ := sorry
theorem frWd.trans (f : frWd μ μ') (g : frWd μ' μ'') : frWd μ μ'' := sorry
theorem frWd.up {i : Nat} {x : Int} : frWd μ (ab_up μ 1314 i x) := sorry
def cWd (μ : ab_M) (w : Wr) : Prop := w.2 ≤ 500 ∧ μ 1 35 = w.2 ∧ ∀ i, i < w.2 → μ 1314 i = (w.1 i).toInt
def cWz (run : ab_R) (μ : ab_M) (w : Wr) : Prop := if w.2 ≤ 500 then R3 run (fun μ' => cWd μ' w ∧ frWd μ μ') else RT run (fun μ' => frWd μ μ')
theorem cWz.seq {run : ab_R} {k : ab_M → ab_R} (h1 : cWz run μ w1) (hle : w1.2 ≤ w2.2) (h2 : ∀ μ1, cWd μ1 w1 → frWd μ μ1 → cWz (k μ1) μ1 w2) : cWz (ab_cal run 3 (fun r1 μ1 => some ((4, r1), μ1)) (fun _ μ1 => k μ1)) μ w2 := sorry
theorem cWz.to {run : ab_R} (h : cWz run μ' w) (f : frWd μ μ') : cWz run μ w := sorry
theorem cWz.ok {run : ab_R} (c : cWd μ' w) (e : run = some ((3, 0), μ')) (f : frWd μ μ') : cWz run μ w := sorry
theorem cWz.ret {run : ab_R} (h : cWz run μ w) : cWz (ab_cal run 3 (fun r1 μ1 => some ((4, r1), μ1)) (fun _ μ1 => some ((3, 0), μ1))) μ w := sorry
theorem c_nw21 {W : Nat → BitVec 64} {c : Nat} (hc : c + n ≤ 500) : ∀ (m k : Nat) (μ : ab_M), k + m = n → μ 1 35 = c → (∀ i, i < c → μ 1314 i = (W i).toInt) → (∀ i, c ≤ i → i < c + k → μ 1314 i = 0) → ∃ μ', (ab_run wc (d + 1) 463 21 [(2, 1), (0, n), (0, k)] [] μ) = some ((0, (c : Int)), μ') ∧ cWd μ' (nwW W c n, c + n) ∧ frWd μ μ' := sorry
theorem c_newWords (c : cWd μ w) (hn : n ≤ 2000000) : (w.2 + n ≤ 500 → ∃ μ', (ab_run wc (d + 2) 463 0 [(2, 1), (0, n), (3, 0)] [] μ) = some ((0, (w.2 : Int)), μ') ∧ cWd μ' (nwW w.1 w.2 n, w.2 + n) ∧ frWd μ μ') ∧ (¬ w.2 + n ≤ 500 → RT (ab_run wc (d + 2) 463 0 [(2, 1), (0, n), (3, 0)] [] μ) (fun μ' => frWd μ μ')) := sorry
theorem cWz.new {K : Int → ab_M → ab_R} (c : cWd μ w) (hn : n ≤ 2000000) (hle : w.2 + n ≤ w2.2) (h2 : ∀ μ1, cWd μ1 (nwW w.1 w.2 n, w.2 + n) → frWd μ μ1 → cWz (K (w.2 : Int) μ1) μ1 w2) : cWz (ab_cal (ab_run wc (d + 2) 463 0 [(2, 1), (0, n), (3, 0)] [] μ) 0 (fun r1 μ1 => some ((4, r1), μ1)) K) μ w2 := sorry
theorem cWd.st {x : BitVec 64} {y : Int} (c : cWd μ w) (hp : p < w.2) (e : y = x.toInt) : cWd (ab_up μ 1314 p y) (wSt w.1 p x, w.2) := sorry
theorem c_setBits {b at' : Nat} (c : cWd μ w) (h : b + at' / 64 < w.2) (hn : n = 64 ∨ n < 63) : ∃ μ', (ab_run wc (d + 1) 509 0 [(2, 1), (0, b), (0, (at')), (0, n), (1, v), (3, 0), (3, 0), (3, 0)] [] μ) = some ((3, 0), μ') ∧ cWd μ' (sbW w.1 b at' n v, w.2) ∧ frWd μ μ' := sorry
theorem ds_eq {p t : Nat} (hp : p < 100000) (ht : t < 100000) : and64 (shl64 (w32 (w32 ((t : Int) - (p : Int)) - 1)) 2) 4294967295 = (dsW p t).toInt := sorry
theorem c_distance {p t : Nat} (hp : p < 100000) (ht : t < 100000) : (ab_run wc (d + 1) 393 0 [(0, p), (0, t)] [] μ) = some ((1, (dsW p t).toInt), μ) := sorry
theorem c_setList {s : Nat} (c : cWd μ w) (hp : p < w.2) (ht : t < 100000) : ∃ μ', (ab_run wc (d + 2) 511 0 [(2, 1), (0, p), (0, t), (0, s), (0, n)] [] μ) = some ((3, 0), μ') ∧ cWd μ' (wSt w.1 p (lsW p t s n), w.2) ∧ frWd μ μ' := sorry
theorem c_sb45 {ar L o b : Nat} (ha : wc_ar ar = (4, L)) (n1 : ar ≠ 1314) (n2 : ar ≠ 2) (n3 : ar ≠ 1) (hb : ∀ μ1 : ab_M, frWd μ μ1 → cBy μ1 ar o l) (hoL : o + l.length ≤ L) (L5 : L < 100000) (hby : byt l) : ∀ (l2 : List Int) (k : Nat) (w : Wr) (μ1 : ab_M), frWd μ μ1 → cWd μ1 w → l.drop k = l2 → b + (l.length + 7) / 8 ≤ w.2 → ∃ μ', (ab_run wc (d + 2) 520 45 [(2, 1), (3, 0), (3, 0), (2, ar), (0, o), (0, (l.length)), (3, 0), (0, b), (0, k)] [] μ1) = some ((3, 0), μ') ∧ cWd μ' (wBy b k l2 w.1, w.2) ∧ frWd μ μ' := sorry
end Cw
end
section
section Cd
variable {μ μ' μ'' μ0 : ab_M} {d D n p t k : Nat} {w w' w1 w2 : Wr} {v : Int} {l : List Int} {S : SF} {N : NF} {A cr ci cb kS b : Nat} {X : Rsv} {h : He} {ni nu us r j : Nat}
theorem kb14 {k : Int} (h1 : 1 ≤ k) (h2 : k ≤ 9) : kBits k = 0 ∧ k = 9 ∨ (kBits k = 32 ∨ kBits k = 64) ∧ k ≠ 9 := sorry
theorem kb12 {k : Int} (h1 : 0 ≤ k) (h2 : k ≤ 12) : kBits k = 0 ∧ (k = 9 ∨ k = 10 ∨ k = 12) ∨ (kBits k = 1 ∨ kBits k = 16 ∨ kBits k = 32 ∨ kBits k = 64) ∧ (k ≤ 8 ∨ k = 11) := sorry
theorem cBy.wd {ar o : Nat} (c : cBy μ ar o l) (n1 : ar ≠ 1314) (n2 : ar ≠ 2) (n3 : ar ≠ 1) (f : frWd μ μ') : cBy μ' ar o l := sorry
theorem c_slotBytes {k : Int} {ar L o : Nat} (c : cWd μ w) (hp : p < w.2) (ha : wc_ar ar = (4, L)) (n1 : ar ≠ 1314) (n2 : ar ≠ 2) (n3 : ar ≠ 1) (hb : cBy μ ar o l) (hoL : o + l.length ≤ L) (L5 : L < 100000) (hby : byt l) : cWz (ab_run wc (d + 4) 520 0 [(2, 1), (0, p), (2, (200000 + k)), (2, ar), (0, o), (0, (l.length)), (3, 0), (3, 0), (3, 0)] [] μ) μ (slB k p l w) := sorry
theorem inM_w {a : Nat} (hm : isM A cr ci cb) (ha : inM A a) : a ≠ 1314 := sorry
theorem cMS.wd (c : cMS μ A kS b S N) (hm : isM A cr ci cb) (f : frWd μ μ') : cMS μ' A kS b S N := sorry
theorem fmW (hm : isM A cr ci cb) (f : frWd μ μ') (x i : Nat) : μ' (msA A x) i = μ (msA A x) i := sorry
theorem CM.wd {nr : Nat} {ty : Nat → Nat} {V : Nat → Nat → List It} {U : Nat → List Un} (c : CM X S μ A cr ci cb nr ty V U ni nu us) (hm : isM A cr ci cb) (f : frWd μ μ') : CM X S μ' A cr ci cb nr ty V U ni nu us := sorry
theorem chI.wd {so ks : Nat} {ch : List Nat} {L0 : List It} (c : chI μ A ci us so ks ch L0) (hm : isM A cr ci cb) (f : frWd μ μ') : chI μ' A ci us so ks ch L0 := sorry
theorem c_tg4 (ms : cMS μ A kS b S N) (tt : (t : Int) < S 0 0 0 ∧ S 2 t 0 = 1) (hj : j < fCt S t) : ∀ (m k x : Nat), k + m = fCt S t → x + m < 1000 → (ab_run wc (d + 1) 694 4 [(2, (tyA b t)), (2, (fdA b t j)), (0, x), (0, k)] [] μ) = some ((0, ((x + tgN S t j m k : Nat) : Int)), μ) := sorry
theorem c_tagOf (ms : cMS μ A kS b S N) (tt : (t : Int) < S 0 0 0 ∧ S 2 t 0 = 1) (hj : j < fCt S t) : (ab_run wc (d + 1) 694 0 [(2, (tyA b t)), (2, (fdA b t j)), (3, 0), (3, 0)] [] μ) = some ((0, ((tgO S t j : Nat) : Int)), μ) := sorry
def isNm (S : SF) (t j : Nat) : Prop := S 11 t j < 2 ∧ (S 12 t j ≤ 8 ∨ S 12 t j = 11)
noncomputable def nbF (S : SF) (t j : Nat) : Nat := if 0 ≤ S 15 t j then 64 else (kBits (S 12 t j)).toNat
def fbF (S : SF) (t j : Nat) : Nat := if 0 ≤ S 15 t j then 16 else 1
def apt (a : Int) (n : Nat) (b : Int) (m : Nat) : Prop := a < 0 ∨ b < 0 ∨ a + n ≤ b ∨ b + m ≤ a
def fLa (S : SF) (t j : Nat) : Prop := (S 16 t j = -2 ∨ 0 ≤ S 16 t j ∧ S 16 t j % (nbF S t j : Int) = 0 ∧ S 16 t j + (nbF S t j : Int) ≤ 64 * S 5 t 0) ∧ (S 18 t j = -2 ∨ 0 ≤ S 18 t j ∧ S 18 t j % (fbF S t j : Int) = 0 ∧ S 18 t j + (fbF S t j : Int) ≤ 64 * S 5 t 0) ∧ (S 17 t j = -2 ∨ 0 ≤ S 17 t j ∧ S 17 t j < S 6 t 0) ∧ (0 ≤ S 16 t j ↔ isNm S t j) ∧ (0 ≤ S 17 t j ↔ ¬ isNm S t j) ∧ (0 ≤ S 18 t j ↔ 0 ≤ S 15 t j ∨ S 11 t j = 1 ∧ S 12 t j ≠ 12) ∧ apt (S 16 t j) (nbF S t j) (S 18 t j) (fbF S t j)
def laOK (S : SF) : Prop := ∀ t : Nat, (t : Int) < S 0 0 0 → S 2 t 0 = 1 → (∀ j, j < fCt S t → fLa S t j) ∧ ∀ j k, j < fCt S t → k < fCt S t → j ≠ k → (0 ≤ S 15 t j ∧ S 15 t k = S 15 t j → S 18 t k = S 18 t j) ∧ (¬ (0 ≤ S 15 t j ∧ S 15 t k = S 15 t j) → apt (S 16 t j) (nbF S t j) (S 16 t k) (nbF S t k) ∧ apt (S 16 t j) (nbF S t j) (S 18 t k) (fbF S t k) ∧ apt (S 18 t j) (fbF S t j) (S 18 t k) (fbF S t k) ∧ (0 ≤ S 17 t j → S 17 t j ≠ S 17 t k))
theorem c_sd11 {b0 : Nat} (la : laOK S) (hm : isM A cr ci cb) (ms0 : cMS μ0 A kS b S N) (cm0 : CM X S μ0 A cr ci cb h.1 h.2.1 h.2.2.1 h.2.2.2 ni nu us) (hr : r < h.1) (hi : hI S h) : ∀ (m j : Nat) (μ : ab_M) (w : Wr), j + m = fCt S (h.2.1 r) → frWd μ0 μ → cWd μ w → b0 + (S 5 (h.2.1 r) 0).toNat ≤ w.2 → ∃ μ', (ab_run wc (d + 3) 522 11 [(2, 1), (2, A), (0, b0), (0, r), (2, (tyA b (h.2.1 r))), (0, j), (3, 0), (3, 0)] [] μ) = some ((3, 0), μ') ∧ cWd μ' (sdF S (h.2.1 r) b0 (h.2.2.1 r) m j w.1, w.2) ∧ frWd μ μ' := sorry
theorem c_slotData {b0 : Nat} (la : laOK S) (hm : isM A cr ci cb) (ms0 : cMS μ0 A kS b S N) (cm0 : CM X S μ0 A cr ci cb h.1 h.2.1 h.2.2.1 h.2.2.2 ni nu us) (hr : r < h.1) (hi : hI S h) (f : frWd μ0 μ) (c : cWd μ w) (hw : b0 + (S 5 (h.2.1 r) 0).toNat ≤ w.2) : ∃ μ', (ab_run wc (d + 3) 522 0 [(2, 1), (2, A), (0, b0), (0, r), (3, 0), (3, 0), (3, 0), (3, 0)] [] μ) = some ((3, 0), μ') ∧ cWd μ' (sdR S h r b0 w.1, w.2) ∧ frWd μ μ' := sorry
end Cd
end
section
section Cr
variable {μ μ' μ'' μ0 : ab_M} {d D E n p t k : Nat} {w w' w1 w2 : Wr} {v : Int} {l : List Int} {S : SF} {N : NF} {A cr ci cb kS b : Nat} {X : Rsv} {h : He} {ni nu us r j : Nat} {Q : Nat → Nat → Wr → Wr}
def slC (A : Nat) (S : SF) (h : He) (Q : Nat → Nat → Wr → Wr) (μ0 : ab_M) (D r : Nat) : Prop := ∀ D', D ≤ D' → ∀ (μ : ab_M) (w : Wr) (base : Nat), frWd μ0 μ → cWd μ w → base + (S 6 (h.2.1 r) 0).toNat ≤ w.2 → cWz (ab_run wc (D') 527 0 [(2, 1), (2, A), (0, base), (0, r), (3, 0), (3, 0), (3, 0), (3, 0), (3, 0)] [] μ) μ (Q r base w)
theorem ty56 (ms : cMS μ A kS b S N) (tt : (t : Int) < S 0 0 0 ∧ S 2 t 0 = 1) : (μ (tyA b t) 13 = ((S 5 t 0).toNat : Int) ∧ μ (tyA b t) 14 = ((S 6 t 0).toNat : Int)) ∧ (S 5 t 0).toNat ≤ 64 ∧ (S 6 t 0).toNat ≤ 24 := sorry
theorem pt_eq {s0 : Int} {x : BitVec 64} {a b : Nat} (e : s0 = x.toInt) : or64 (or64 s0 (shl64 (a : Int) 32)) (shl64 (b : Int) 48) = ((x ||| (BitVec.ofNat 64 a <<< 32)) ||| (BitVec.ofNat 64 b <<< 48)).toInt := sorry
theorem c_slotRecord (la : laOK S) (hm : isM A cr ci cb) (ms0 : cMS μ0 A kS b S N) (cm0 : CM X S μ0 A cr ci cb h.1 h.2.1 h.2.2.1 h.2.2.2 ni nu us) (hr : r < h.1) (hi : hI S h) (hQ : ∀ r p w, w.2 ≤ (Q r p w).2) (hc : slC A S h Q μ0 (E + 4) r) (f : frWd μ0 μ) (c : cWd μ w) (hp : p < w.2) : cWz (ab_run wc (E + 5) 528 0 [(2, 1), (2, A), (0, p), (0, r), (3, 0), (3, 0)] [] μ) μ (slR S h Q r p w) := sorry
theorem c_si107N {ch : List Nat} {L0 : List It} {bs b0 : Nat} {so : Int} (hm : isM A cr ci cb) (ms0 : cMS μ0 A kS b S N) (tt : (t : Int) < S 0 0 0 ∧ S 2 t 0 = 1) (hj : j < fCt S t) (kn : S 12 t j ≤ 8 ∨ S 12 t j = 11) (hs : so ≠ 6) (c0 : chI μ0 A ci us (fSo (S 12 t j)) (fKs (S 11 t j) (S 14 t j)) ch L0) (nh : ∀ q ∈ L0, q.2.2.2.2 ≠ hole) (hbs : bs = 64 ∨ bs < 63) (l5 : ch.length ≤ 10000) (b64 : bs ≤ 64) (hb0 : b0 ≤ 500) : ∀ (L : List It) (k : Nat) (μ : ab_M) (w : Wr), frWd μ0 μ → (∀ q : Nat, L0[k + q]? = L[q]?) → k + L.length = ch.length → cWd μ w → (0 < bs ∧ 64 % bs = 0) → b0 + (ch.length * bs + 63) / 64 ≤ w.2 → ∃ μ', (ab_run wc (E + 2) 524 107 [(2, 1), (2, A), (3, 0), (2, (fdA b t j)), (3, 0), (3, 0), (0, so), (0, bs), (0, b0), (0, k), (0, (nx ch k))] [] μ) = some ((3, 0), μ') ∧ cWd μ' (slN b0 bs k L w.1, w.2) ∧ frWd μ μ' := sorry
theorem c_si107B {ch : List Nat} {L0 : List It} {bs b0 : Nat} (hm : isM A cr ci cb) (ms0 : cMS μ0 A kS b S N) (tt : (t : Int) < S 0 0 0 ∧ S 2 t 0 = 1) (hj : j < fCt S t) (kb : S 12 t j = 9 ∨ S 12 t j = 10) (u2 : us ≤ cb) (c0 : chI μ0 A ci us (fSo (S 12 t j)) (fKs (S 11 t j) (S 14 t j)) ch L0) (nh : ∀ q ∈ L0, q.2.2.2.2 ≠ hole) (hl : ∀ q ∈ L0, byt q.2.2.2.1) (l5 : ch.length ≤ 10000) (hb0 : b0 ≤ 500) : ∀ (L : List It) (k : Nat) (μ : ab_M) (w : Wr), frWd μ0 μ → (∀ q : Nat, L0[k + q]? = L[q]?) → k + L.length = ch.length → cWd μ w → b0 + ch.length ≤ w.2 → cWz (ab_run wc (E + 5) 524 107 [(2, 1), (2, A), (3, 0), (2, (fdA b t j)), (3, 0), (3, 0), (0, 6), (0, bs), (0, b0), (0, k), (0, (nx ch k))] [] μ) μ (slT (S 12 t j) b0 k L w) := sorry
end Cr
end
section
section Cm
variable {μ μ' μ'' μ0 : ab_M} {d D E n p t k : Nat} {w w' w1 w2 : Wr} {v : Int} {l : List Int} {S : SF} {N : NF} {A cr ci cb kS b : Nat} {X : Rsv} {h : He} {ni nu us r j : Nat} {Q : Nat → Nat → Wr → Wr}
def mqS (K I : Nat) : Nat := if K = 0 then 0 else (K + I - 1) / I * I
def mqD (K I : Nat) : Nat := (max K (if I = 0 then 0 else mqS K I + I) + 63) / 64
def mqP (K I : Nat) : Nat := (if K = 0 then 1 else 0) + (if I = 0 then 1 else 0)
theorem c_le27 {K I : Int} (hK : K = 0 ∨ K = 32 ∨ K = 64) (hI : I = 0 ∨ I = 1 ∨ I = 16 ∨ I = 32 ∨ I = 64) {s0 : Int} : ∃ μ', (ab_run wc (d + 2) 430 27 [(2, 1), (3, 0), (0, K), (0, I), (3, 0)] [(0, s0), (2, 1)] μ) = some ((3, 0), μ') ∧ μ' 1 38 = s0 ∧ (μ' 1 39 = if I = 0 then -2 else ((mqS K.toNat I.toNat : Nat) : Int)) ∧ μ' 1 36 = ((mqD K.toNat I.toNat : Nat) : Int) ∧ μ' 1 37 = ((mqP K.toNat I.toNat : Nat) : Int) ∧ ∀ a i, (a ≠ 1 ∨ i ≠ 36 ∧ i ≠ 37 ∧ i ≠ 38 ∧ i ≠ 39) → μ' a i = μ a i := sorry
theorem c_layEntry (ms : cMS μ A kS b S N) (tt : (t : Int) < S 0 0 0 ∧ S 2 t 0 = 1) (hj : j < fCt S t) (m3 : S 11 t j = 3) : ∃ μ', (ab_run wc (d + 2) 430 0 [(2, 1), (2, (fdA b t j)), (3, 0), (3, 0), (3, 0)] [] μ) = some ((3, 0), μ') ∧ (μ' 1 38 = if S 14 t j = 9 then -2 else 0) ∧ (μ' 1 39 = if kBits (S 12 t j) = 0 then -2 else ((mpS S t j : Nat) : Int)) ∧ μ' 1 36 = ((mpA S t j : Nat) : Int) ∧ μ' 1 37 = ((mpB S t j : Nat) : Int) ∧ ∀ a i, (a ≠ 1 ∨ i ≠ 36 ∧ i ≠ 37 ∧ i ≠ 38 ∧ i ≠ 39) → μ' a i = μ a i := sorry
theorem mp_le (k1 : 1 ≤ S 14 t j ∧ S 14 t j ≤ 9) (k2 : 0 ≤ S 12 t j ∧ S 12 t j ≤ 12) : mpA S t j ≤ 2 ∧ mpB S t j ≤ 2 ∧ (kBits (S 14 t j) = 0 ∨ kBits (S 14 t j) ≤ 64 * mpA S t j) ∧ (kBits (S 12 t j) = 0 ∨ (mpS S t j : Int) + kBits (S 12 t j) ≤ 64 * mpA S t j) := sorry
theorem c_slotItems {L0 : List It} (hm : isM A cr ci cb) (ms0 : cMS μ0 A kS b S N) (cm0 : CM X S μ0 A cr ci cb h.1 h.2.1 h.2.2.1 h.2.2.2 ni nu us) (hr : r < h.1) (hj : j < fCt S (h.2.1 r)) (m2 : S 11 (h.2.1 r) j = 2) (h12 : S 12 (h.2.1 r) j ≠ 12) (hne : h.2.2.1 r j ≠ []) (nh : ∀ q ∈ h.2.2.1 r j, q.2.2.2.2 ≠ hole) (hl : ∀ q ∈ h.2.2.1 r j, byt q.2.2.2.1) (f : frWd μ0 μ) (c : cWd μ w) (hp : p < w.2) :
    cWz (ab_run wc (E + 7) 524 0 [(2, 1), (2, A), (0, p), (2, (fdA b (h.2.1 r) j)), (0, (((bsF S h.2.1 r + j : Nat) : Int))), (3, 0), (3, 0), (3, 0), (3, 0), (3, 0), (3, 0)] [] μ) μ (slI S h Q (h.2.1 r) j p (h.2.2.1 r j) w) := sorry
end Cm
end
section
section Cx
variable {μ μ' μ'' μ0 : ab_M} {d D E n p t k : Nat} {w w' w1 w2 : Wr} {v : Int} {l : List Int} {S : SF} {N : NF} {A cr ci cb kS b : Nat} {X : Rsv} {h : He} {ni nu us r j : Nat} {Q : Nat → Nat → Wr → Wr} {ch : List Nat}
def hShp (S : SF) (h : He) : Prop := ∀ r, r < h.1 → (∀ j, j < fCt S (h.2.1 r) → S 12 (h.2.1 r) j = 12 → ∀ q ∈ h.2.2.1 r j, h.2.1 q.2.2.2.2 = (S 13 (h.2.1 r) j).toNat) ∧ ∀ j k, j < fCt S (h.2.1 r) → k < fCt S (h.2.1 r) → j ≠ k → 0 ≤ S 15 (h.2.1 r) j → S 15 (h.2.1 r) k = S 15 (h.2.1 r) j → h.2.2.1 r j ≠ [] → h.2.2.1 r k = []
theorem c_sr92 {x6 f : Int} {a bb s : Nat} (hm : isM A cr ci cb) (s4 : s < 24 * cr) (e14 : ∀ μ2, frWd μ μ2 → μ2 (msA A 14) s = nx ch 0) (n9 : n ≤ 10000) (a9 : a ≤ 64) (b9 : bb ≤ 24) (c : cWd μ w) (hp : p < w.2) (hle : w.2 + (1 + n * (a + bb)) ≤ w2.2) (hk : ∀ μ2, frWd μ μ2 → cWd μ2 (slH p n a bb w, w.2 + (1 + n * (a + bb))) → cWz (ab_run wc (E + 6) 529 180 [(2, 1), (2, A), (3, 0), (2, f), (0, s), (3, 0), (0, x6), (0, a), (0, bb), (0, (μ 1 38)), (0, (μ 1 39)), (0, ((w.2 : Int))), (0, (((w.2 + 1 : Nat) : Int))), (0, (nx ch 0)), (3, 0)] [] μ2) μ2 w2) :
    cWz (ab_run wc (E + 6) 529 92 [(2, 1), (2, A), (0, p), (2, f), (0, s), (0, n), (0, x6), (0, a), (3, 0), (3, 0), (3, 0), (3, 0), (3, 0), (3, 0), (3, 0)] [(0, bb)] μ) μ w2 := sorry
theorem c_sr180R {f : Int} {s a bb x11 : Nat} {x9 x10 : Int} {L0 : List It} (la : laOK S) (hm : isM A cr ci cb) (ms0 : cMS μ0 A kS b S N) (cm0 : CM X S μ0 A cr ci cb h.1 h.2.1 h.2.2.1 h.2.2.2 ni nu us) (hi : hI S h) (s4 : s < 24 * cr) (e14 : ∀ μ2, frWd μ0 μ2 → μ2 (msA A 14) s = nx ch 0) {so ks : Nat} (hso : so = 2) (c0 : chI μ0 A ci us so ks ch L0) (nh : ∀ q ∈ L0, q.2.2.2.2 ≠ hole) (hq : ∀ q ∈ L0, q.2.2.2.2 < h.1 ∧ (S 5 (h.2.1 q.2.2.2.2) 0).toNat = a) (x500 : x11 < 500) (a9 : a ≤ 64) (b9 : bb ≤ 24) : ∀ (L : List It) (k : Nat) (μ : ab_M) (w : Wr) (pa : Nat), frWd μ0 μ → (∀ q : Nat, L0[k + q]? = L[q]?) → k + L.length = ch.length → cWd μ w → pa + L.length * (a + bb) ≤ w.2 → ∃ μ', (ab_run wc (E + 6) 529 180 [(2, 1), (2, A), (3, 0), (2, f), (0, s), (3, 0), (0, 0), (0, a), (0, bb), (0, x9), (0, x10), (0, x11), (0, pa), (0, (nx ch k)), (3, 0)] [] μ) = (ab_run wc (E + 6) 529 301 [(2, 1), (2, A), (3, 0), (2, f), (3, 0), (3, 0), (0, 0), (0, a), (0, bb), (3, 0), (3, 0), (3, 0), (0, (((x11 + 1 + a : Nat) : Int))), (0, (nx ch 0)), (3, 0)] [] μ') ∧ cWd μ' (sdL S h (a + bb) pa L w.1, w.2) ∧ frWd μ μ' := sorry
theorem c_sr180M {s a bb x11 : Nat} {L0 : List It} (hm : isM A cr ci cb) (ms0 : cMS μ0 A kS b S N) (tt : (t : Int) < S 0 0 0 ∧ S 2 t 0 = 1) (hj : j < fCt S t) (m3 : S 11 t j = 3) (s4 : s < 24 * cr) (e14 : ∀ μ2, frWd μ0 μ2 → μ2 (msA A 14) s = nx ch 0) (c0 : chI μ0 A ci us (fSo (S 12 t j)) (fKs (S 11 t j) (S 14 t j)) ch L0) (nh : ∀ q ∈ L0, q.2.2.2.2 ≠ hole) (ea : a = mpA S t j) (eb : bb = mpB S t j) (x500 : x11 < 500) : ∀ (L : List It) (k : Nat) (μ : ab_M) (w : Wr) (pa : Nat), frWd μ0 μ → (∀ q : Nat, L0[k + q]? = L[q]?) → k + L.length = ch.length → cWd μ w → pa + L.length * (a + bb) ≤ w.2 → ∃ μ', (ab_run wc (E + 6) 529 180 [(2, 1), (2, A), (3, 0), (2, (fdA b t j)), (0, s), (3, 0), (0, 1), (0, a), (0, bb), (0, ((if S 14 t j = 9 then -2 else 0))), (0, ((if kBits (S 12 t j) = 0 then -2 else ((mpS S t j : Nat) : Int)))), (0, x11), (0, pa), (0, (nx ch k)), (3, 0)] [] μ) = (ab_run wc (E + 6) 529 301 [(2, 1), (2, A), (3, 0), (2, (fdA b t j)), (3, 0), (3, 0), (0, 1), (0, a), (0, bb), (3, 0), (3, 0), (3, 0), (0, (((x11 + 1 + a : Nat) : Int))), (0, (nx ch 0)), (3, 0)] [] μ') ∧ cWd μ' (smL S t j (a + bb) pa L w.1, w.2) ∧ frWd μ μ' := sorry
end Cx
end
section
section Cy
variable {μ μ' μ'' μ0 : ab_M} {d D E n p t k : Nat} {w w' w1 w2 : Wr} {v : Int} {l : List Int} {S : SF} {N : NF} {A cr ci cb kS b : Nat} {X : Rsv} {h : He} {ni nu us r j : Nat} {Q : Nat → Nat → Wr → Wr} {ch : List Nat}
theorem c_sr301R {f : Int} {a bb : Nat} {L0 : List It} (hm : isM A cr ci cb) (hQ : ∀ r p w, w.2 ≤ (Q r p w).2) {so ks : Nat} (hso : so = 2) (c0 : chI μ0 A ci us so ks ch L0) (nh : ∀ q ∈ L0, q.2.2.2.2 ≠ hole) (hc : ∀ q ∈ L0, slC A S h Q μ0 (E + 5) q.2.2.2.2 ∧ (S 6 (h.2.1 q.2.2.2.2) 0).toNat = bb) (a9 : a ≤ 64) (b9 : bb ≤ 24) : ∀ (L : List It) (k : Nat) (μ : ab_M) (w : Wr) (pa : Nat), frWd μ0 μ → (∀ q : Nat, L0[k + q]? = L[q]?) → k + L.length = ch.length → cWd μ w → pa + L.length * (a + bb) ≤ w.2 + a → cWz (ab_run wc (E + 6) 529 301 [(2, 1), (2, A), (3, 0), (2, f), (3, 0), (3, 0), (0, 0), (0, a), (0, bb), (3, 0), (3, 0), (3, 0), (0, pa), (0, (nx ch k)), (3, 0)] [] μ) μ (spL Q (a + bb) pa L w) := sorry
theorem c_sr301M {a bb : Nat} {L0 : List It} (la : laOK S) (hm : isM A cr ci cb) (ms0 : cMS μ0 A kS b S N) (cm0 : CM X S μ0 A cr ci cb h.1 h.2.1 h.2.2.1 h.2.2.2 ni nu us) (hi : hI S h) (hQ : ∀ r p w, w.2 ≤ (Q r p w).2) (tt : (t : Int) < S 0 0 0 ∧ S 2 t 0 = 1) (hj : j < fCt S t) (m3 : S 11 t j = 3) (u2 : us ≤ cb) (c0 : chI μ0 A ci us (fSo (S 12 t j)) (fKs (S 11 t j) (S 14 t j)) ch L0) (nh : ∀ q ∈ L0, q.2.2.2.2 ≠ hole) (hl : ∀ q ∈ L0, byt q.2.1 ∧ byt q.2.2.2.1) (hc : S 12 t j = 12 → ∀ q ∈ L0, q.2.2.2.2 < h.1 ∧ slC A S h Q μ0 (E + 4) q.2.2.2.2) (ea : a = mpA S t j) (eb : bb = mpB S t j) : ∀ (L : List It) (k : Nat) (μ : ab_M) (w : Wr) (pa : Nat), frWd μ0 μ → (∀ q : Nat, L0[k + q]? = L[q]?) → k + L.length = ch.length → cWd μ w → pa + L.length * (a + bb) ≤ w.2 + a → cWz (ab_run wc (E + 6) 529 301 [(2, 1), (2, A), (3, 0), (2, (fdA b t j)), (3, 0), (3, 0), (0, 1), (0, a), (0, bb), (3, 0), (3, 0), (3, 0), (0, pa), (0, (nx ch k)), (3, 0)] [] μ) μ (smP S h Q t j (a + bb) pa L w) := sorry
theorem c_slotRecords (la : laOK S) (hm : isM A cr ci cb) (ms0 : cMS μ0 A kS b S N) (cm0 : CM X S μ0 A cr ci cb h.1 h.2.1 h.2.2.1 h.2.2.2 ni nu us) (hr : r < h.1) (hj : j < fCt S (h.2.1 r)) (hi : hI S h) (sh : hShp S h) (hQ : ∀ r p w, w.2 ≤ (Q r p w).2) (my : S 11 (h.2.1 r) j = 3 ∨ S 11 (h.2.1 r) j = 2 ∧ S 12 (h.2.1 r) j = 12) (hne : h.2.2.1 r j ≠ []) (nh : ∀ q ∈ h.2.2.1 r j, q.2.2.2.2 ≠ hole) (hl : ∀ q ∈ h.2.2.1 r j, byt q.2.1 ∧ byt q.2.2.2.1) (hc : S 12 (h.2.1 r) j = 12 → ∀ q ∈ h.2.2.1 r j, q.2.2.2.2 < h.1 ∧ slC A S h Q μ0 (E + 4) q.2.2.2.2) (f : frWd μ0 μ) (c : cWd μ w) (hp : p < w.2) :
    cWz (ab_run wc (E + 6) 529 0 [(2, 1), (2, A), (0, p), (2, (fdA b (h.2.1 r) j)), (0, (((bsF S h.2.1 r + j : Nat) : Int))), (3, 0), (3, 0), (3, 0), (3, 0), (3, 0), (3, 0), (3, 0), (3, 0), (3, 0), (3, 0)] [] μ) μ (slI S h Q (h.2.1 r) j p (h.2.2.1 r j) w) := sorry
end Cy
end
section
section Cz
variable {μ μ' μ'' μ0 : ab_M} {d D E n p t k : Nat} {w w' w1 w2 : Wr} {v : Int} {l : List Int} {S : SF} {N : NF} {A cr ci cb kS b : Nat} {X : Rsv} {h : He} {ni nu us r j : Nat} {Q : Nat → Nat → Wr → Wr} {ch : List Nat}
theorem c_sp24 {base : Nat} (la : laOK S) (hm : isM A cr ci cb) (ms0 : cMS μ0 A kS b S N) (cm0 : CM X S μ0 A cr ci cb h.1 h.2.1 h.2.2.1 h.2.2.2 ni nu us) (hr : r < h.1) (hi : hI S h) (hn : hNm S h) (sh : hShp S h) (hQ : ∀ r p w, w.2 ≤ (Q r p w).2) (nh : ∀ j, j < fCt S (h.2.1 r) → ∀ q ∈ h.2.2.1 r j, q.2.2.2.2 ≠ hole) (hc : ∀ j, j < fCt S (h.2.1 r) → S 12 (h.2.1 r) j = 12 → ∀ q ∈ h.2.2.1 r j, q.2.2.2.2 < h.1 ∧ slC A S h Q μ0 (E + 4) q.2.2.2.2) (hp : p < 24) : ∀ (m j : Nat) (μ : ab_M) (w : Wr), j + m = fCt S (h.2.1 r) → frWd μ0 μ → cWd μ w → base + p < w.2 → (∀ w2 : Wr, (spF S h Q (h.2.1 r) base p (h.2.2.1 r) m j w).2 ≤ w2.2 → (∀ μ2, frWd μ0 μ2 → cWd μ2 (spF S h Q (h.2.1 r) base p (h.2.2.1 r) m j w) → cWz (ab_run wc (E + 8) 527 11 [(2, 1), (2, A), (0, base), (0, r), (2, (tyA b (h.2.1 r))), (0, (((p + 1 : Nat) : Int))), (3, 0), (3, 0), (3, 0)] [] μ2) μ2 w2) → cWz (ab_run wc (E + 8) 527 24 [(2, 1), (2, A), (0, base), (0, r), (2, (tyA b (h.2.1 r))), (0, p), (0, j), (3, 0), (3, 0)] [] μ) μ w2) := sorry
theorem c_sp11 {base : Nat} (la : laOK S) (hm : isM A cr ci cb) (ms0 : cMS μ0 A kS b S N) (cm0 : CM X S μ0 A cr ci cb h.1 h.2.1 h.2.2.1 h.2.2.2 ni nu us) (hr : r < h.1) (hi : hI S h) (hn : hNm S h) (sh : hShp S h) (hQ : ∀ r p w, w.2 ≤ (Q r p w).2) (nh : ∀ j, j < fCt S (h.2.1 r) → ∀ q ∈ h.2.2.1 r j, q.2.2.2.2 ≠ hole) (hc : ∀ j, j < fCt S (h.2.1 r) → S 12 (h.2.1 r) j = 12 → ∀ q ∈ h.2.2.1 r j, q.2.2.2.2 < h.1 ∧ slC A S h Q μ0 (E + 4) q.2.2.2.2) : ∀ (m p : Nat) (μ : ab_M) (w : Wr), p + m = (S 6 (h.2.1 r) 0).toNat → frWd μ0 μ → cWd μ w → base + (S 6 (h.2.1 r) 0).toNat ≤ w.2 → cWz (ab_run wc (E + 8) 527 11 [(2, 1), (2, A), (0, base), (0, r), (2, (tyA b (h.2.1 r))), (0, p), (3, 0), (3, 0), (3, 0)] [] μ) μ (spP S h Q (h.2.1 r) base (h.2.2.1 r) m p w) := sorry
theorem c_SQ {al : Nat → Bool} (la : laOK S) (hm : isM A cr ci cb) (cn : hCn S h) (hi : hI S h) (hn : hNm S h) (sh : hShp S h) (h1000 : h.1 < hole) (dn : hDn S h al) (ms0 : cMS μ0 A kS b S N) (cm0 : CM X S μ0 A cr ci cb h.1 h.2.1 h.2.2.1 h.2.2.2 ni nu us) : ∀ (f r : Nat), r < h.1 → al r = true → h.1 ≤ r + f → slC A S h (slQ S h f) μ0 (4 * f + 8) r := sorry
end Cz
end
section
section Ct
variable {μ μ' μ'' μ0 : ab_M} {d D ra ba cap : Nat} {O : List Int} {S : SF} {N : NF} {m s bs A cr ci cb kS b : Nat} {h : He} {w : Wr} {X : Rsv} {ni nu us : Nat}
def wB (x : BitVec 64) : List Int := [((x.toNat % 256 : Nat) : Int), ((x.toNat / 256 % 256 : Nat) : Int), ((x.toNat / 65536 % 256 : Nat) : Int), ((x.toNat / 16777216 % 256 : Nat) : Int), ((x.toNat / 4294967296 % 256 : Nat) : Int), ((x.toNat / 1099511627776 % 256 : Nat) : Int), ((x.toNat / 281474976710656 % 256 : Nat) : Int), ((x.toNat / 72057594037927936 % 256 : Nat) : Int)]
def swF (W : Nat → BitVec 64) : Nat → Nat → List Int
  | 0, _ => []
  | m + 1, i => wB (W i) ++ swF W m (i + 1)
def swB (w : Wr) : List Int := swF w.1 w.2 0
theorem wB_len {x : BitVec 64} : (wB x).length = 8 := sorry
theorem swF_len {W : Nat → BitVec 64} : ∀ (m i : Nat), (swF W m i).length = 8 * m := sorry
theorem bv_toInt (x : BitVec 64) : x.toInt = x.toNat ∨ x.toInt = (x.toNat : Int) - 18446744073709551616 := sorry
theorem w32_256 (y : Int) : w32 y % 256 = y % 256 := sorry
theorem wB_at {x : BitVec 64} {k : Nat} (hk : k < 8) : (wB x)[k]? = some (w32 (shr64 x.toInt ((8 * k : Nat) : Int)) % 256) := sorry
theorem c_sl33 {x : BitVec 64} {i : Nat} (i5 : i < 500) : ∀ (m k : Nat) (μ : ab_M) (O : List Int), k + m = 8 → cW μ ra ba cap O → μ 1314 i = x.toInt → ∃ μ', (ab_run wc (d + 3) 532 33 [(2, 1), (3, 0), (0, i), (0, (((8 * k : Nat) : Int)))] [] μ) = (ab_run wc (d + 3) 532 23 [(2, 1), (3, 0), (0, (((i + 1 : Nat) : Int))), (3, 0)] [] μ') ∧ cW μ' ra ba cap (O ++ (wB x).drop k) ∧ frU ra ba μ μ' := sorry
theorem c_sl23 (w5 : w.2 ≤ 500) : ∀ (m i : Nat) (μ : ab_M) (O : List Int), i + m = w.2 → cW μ ra ba cap O → cWd μ w → R3 (ab_run wc (d + 3) 532 23 [(2, 1), (3, 0), (0, i), (3, 0)] [] μ) (fun μ' => cW μ' ra ba cap (O ++ swF w.1 m i) ∧ frU ra ba μ μ') := sorry
theorem swB_eq {w w' : Wr} (h2 : w.2 = w'.2) (h : ∀ i, i < w.2 → w.1 i = w'.1 i) : swB w = swB w' := sorry
theorem c_write2 (hD : 12000 ≤ D) (o : isO ra ba cap) (hM : isM A cr ci cb) (la : laOK S) (sh : hShp S h) (hw : hWell S h) (dn : hDn S h (fun _ => true)) (hn : hNm S h) (s1 : cMS μ A kS b S N) (s2 : μ A 2 = 0) (s3 : CM X S μ A cr ci cb h.1 h.2.1 h.2.2.1 h.2.2.2 ni nu us) : ∃ μ', (ab_run wc ((D + 1)) 569 0 [(2, 1), (2, A), (0, 2), (2, ra), (3, 0), (3, 0)] [] μ) = some ((0, if 500 < (slM S h).2 then 0 else 1), μ') ∧ μ' 1 29 = 1 ∧ ((slM S h).2 ≤ 500 → cRow μ' ra ba cap (swB (slM S h))) ∧ ∀ a i, (a ≠ ra ∨ i ≠ 1) → a ≠ ba → a ≠ 1314 → a ≠ 2 → (a ≠ 1 ∨ i ≠ 22 ∧ i ≠ 29 ∧ i ≠ 35 ∧ i ≠ 36 ∧ i ≠ 37 ∧ i ≠ 38 ∧ i ≠ 39) → μ' a i = μ a i := sorry
theorem c_encode2 {row : Nat} (hD : 12000 ≤ D) (hm : m < 12) (hr : row < 8) (la : laOK S) (sh : hShp S h) (z : μ (6314 + 27 * m) 0 = 1) (mc : mC S N μ m s bs h) :
    R0 (ab_run wc ((D + 2)) 396 0 [(2, 1), (0, m), (0, 2), (0, row), (3, 0)] [] μ) (fun v μ' => (∀ a i, (a ≠ 1310 ∨ i ≠ 1) → a ≠ 1311 → a ≠ 1314 → a ≠ 2 → (a ≠ 1 ∨ i ≠ 22 ∧ i ≠ 29 ∧ i ≠ 35 ∧ i ≠ 36 ∧ i ≠ 37 ∧ i ≠ 38 ∧ i ≠ 39) → (a ≠ rwA row ∨ i ≠ 1) → a ≠ rbA row → μ' a i = μ a i) ∧ if 500 < (slM S h).2 then v = -3 ∧ (∀ a i, 1337 < a → a < 1354 → μ' a i = μ a i) else v = (swB (slM S h)).length ∧ cRow μ' (rwA row) (rbA row) 4000 (swB (slM S h))) := sorry
end Ct
end
section
section Tw
variable {μ μ' μ'' : ab_M} {d n p t k s m : Nat} {w w' w1 w2 : Wr} {v : Int} {l : List Int} {S : SF} {N : NF}
theorem tSc.to7 {s : Nat} (h : tSc μ s S N) (e : ∀ a, 7762 ≤ a → a ≤ 7857 → μ' a = μ a) : tSc μ' s S N := sorry
theorem TS.mv7 (h : TS μ s S N) (f : ∀ a, 7762 ≤ a → a ≤ 7857 → ∀ i, μ' a i = μ a i) : TS μ' s S N := sorry
def frSv (μ μ' : ab_M) : Prop := ∀ a i, a ≠ 7860 → a ≠ 7907 → (a ≠ 7756 ∨ i ≠ 204) → μ' a i = μ a i
theorem frSv.refl : frSv μ μ := sorry
theorem frSv.trans (f : frSv μ μ') (g : frSv μ' μ'') : frSv μ μ'' := sorry
theorem frSv.up {i : Nat} {x : Int} : frSv μ (ab_up μ 7907 i x) := sorry
def tWd (μ : ab_M) (w : Wr) : Prop := w.2 ≤ 23000 ∧ μ 7756 204 = w.2 ∧ ∀ i, i < w.2 → μ 7907 i = (w.1 i).toInt
def tWv (run : ab_R) (μ : ab_M) (w : Wr) : Prop := R3 run (fun μ' => (w.2 ≤ 23000 → tWd μ' w) ∧ (23000 < w.2 → μ' 7756 204 = (w.2 : Int)) ∧ frSv μ μ')
theorem tWv.ok {run : ab_R} (c : tWd μ' w) (e : run = some ((3, 0), μ')) (f : frSv μ μ') : tWv run μ w := sorry
theorem tWv.to {run : ab_R} (h : tWv run μ' w) (f : frSv μ μ') : tWv run μ w := sorry
theorem tWv.ret {run : ab_R} (h : tWv run μ w) : tWv (ab_cal run 3 (fun r1 μ1 => some ((4, r1), μ1)) (fun _ μ1 => some ((3, 0), μ1))) μ w := sorry
theorem tw_nw7 {W : Nat → BitVec 64} {c : Nat} (hc : c ≤ 23000) (hn : n ≤ 10000000) : ∀ (m k : Nat) (μ : ab_M), k + m = n → μ 7756 204 = c → (∀ i, i < c → μ 7907 i = (W i).toInt) → (∀ i, c ≤ i → i < c + k → i < 24000 → μ 7907 i = 0) → ∃ μ', (ab_run wt (d + 1) 173 7 [(2, 7756), (0, n), (0, c), (0, k)] [] μ) = some ((0, (c : Int)), μ') ∧ μ' 7756 204 = ((c + n : Nat) : Int) ∧ (∀ i, i < c → μ' 7907 i = (W i).toInt) ∧ (∀ i, c ≤ i → i < c + n → i < 24000 → μ' 7907 i = 0) ∧ frSv μ μ' := sorry
theorem tw_newWords (c : tWd μ w) (hn : n ≤ 10000000) : ∃ μ', (ab_run wt (d + 1) 173 0 [(2, 7756), (0, n), (3, 0), (3, 0)] [] μ) = some ((0, (w.2 : Int)), μ') ∧ (w.2 + n ≤ 23000 → tWd μ' (nwW w.1 w.2 n, w.2 + n)) ∧ μ' 7756 204 = ((w.2 + n : Nat) : Int) ∧ frSv μ μ' := sorry
theorem tw_nwB {c : Nat} (hc : 23000 < c) (c6 : c ≤ 1000000) (hn : n ≤ 1000000) (e : μ 7756 204 = c) : ∃ μ', (ab_run wt (d + 1) 173 0 [(2, 7756), (0, n), (3, 0), (3, 0)] [] μ) = some ((0, (c : Int)), μ') ∧ μ' 7756 204 = ((c + n : Nat) : Int) ∧ frSv μ μ' := sorry
theorem tw_fits (h : 0 ≤ μ 7756 204) : (ab_run wt (d + 1) 68 0 [(2, 7756)] [] μ) = some ((0, if 23000 < μ 7756 204 then 0 else 1), μ) := sorry
theorem tWd.st {x : BitVec 64} {y : Int} (c : tWd μ w) (hp : p < w.2) (e : y = x.toInt) : tWd (ab_up μ 7907 p y) (wSt w.1 p x, w.2) := sorry
theorem tw_setBits {b at' : Nat} (c : tWd μ w) (h : b + at' / 64 < w.2) (hn : n = 64 ∨ n < 63) (h64 : at' % 64 + n ≤ 64) (hz : ∀ i, at' ≤ i → i < at' + n → tbW w.1 b i = false) : ∃ μ', (ab_run wt (d + 1) 283 0 [(2, 7756), (0, b), (0, (at')), (0, n), (1, v), (3, 0), (3, 0), (3, 0), (3, 0)] [] μ) = some ((3, 0), μ') ∧ tWd μ' (sbW w.1 b at' n v, w.2) ∧ frSv μ μ' := sorry
theorem or3 (x y z : BitVec 64) : (x ||| y) ||| z = (z ||| y) ||| x := sorry
theorem or4 (x y z u : BitVec 64) : ((x ||| y) ||| z) ||| u = ((u ||| z) ||| y) ||| x := sorry
theorem ds_tw {p t : Nat} (hp : p < 100000) (ht : t < 100000) : shl64 (and64 (w32 (w32 ((t : Int) - (p : Int)) - 1)) 1073741823) 2 = (dsW p t).toInt := sorry
theorem sh_eq {a b : Nat} : BitVec.ofInt 64 (or64 (shl64 (b : Int) 16) (a : Int)) = (BitVec.ofNat 64 b <<< 16) ||| BitVec.ofNat 64 a := sorry
theorem tw_pointTo {a b : Nat} {hi : Int} (c : tWd μ w) (hp : p < w.2) (ht : t < 100000) (hh : hi = or64 (shl64 (b : Int) 16) (a : Int)) : ∃ μ', (ab_run wt (d + 1) 212 0 [(2, 7756), (0, p), (0, t), (1, hi), (3, 0)] [] μ) = some ((3, 0), μ') ∧ tWd μ' (wSt w.1 p (ptW p t a b), w.2) ∧ frSv μ μ' := sorry
theorem tw_listTo {s : Nat} (c : tWd μ w) (hp : p < w.2) (ht : t < 100000) : ∃ μ', (ab_run wt (d + 1) 155 0 [(2, 7756), (0, p), (0, t), (0, s), (0, n)] [] μ) = some ((3, 0), μ') ∧ tWd μ' (wSt w.1 p (lsW p t s n), w.2) ∧ frSv μ μ' := sorry
theorem tw_tagWord {a b : Nat} {hi : Int} (c : tWd μ w) (hp : p < w.2) (hh : hi = or64 (shl64 (b : Int) 16) (a : Int)) : ∃ μ', (ab_run wt (d + 1) 299 0 [(2, 7756), (0, p), (0, n), (1, hi), (3, 0)] [] μ) = some ((3, 0), μ') ∧ tWd μ' (wSt w.1 p (tgW n a b), w.2) ∧ frSv μ μ' := sorry
theorem tw_shapeOf (ts : TS μ s S N) (t1 : (t : Int) < S 0 0 0) (t2 : S 2 t 0 = 1) : (ab_run wt (d + 1) 285 0 [(2, 7756), (0, (((30 * s + t : Nat) : Int)))] [] μ) = some ((1, or64 (shl64 ((S 6 t 0).toNat : Int) 16) ((S 5 t 0).toNat : Int)), μ) ∧ μ 7771 (30 * s + t) = ((S 5 t 0).toNat : Int) ∧ μ 7772 (30 * s + t) = ((S 6 t 0).toNat : Int) ∧ (S 5 t 0).toNat ≤ 64 ∧ (S 6 t 0).toNat ≤ 24 := sorry
end Tw
end
section
section Tb
variable {μ μ' μ'' μ0 : ab_M} {d n p t k s m base r j uM pM : Nat} {w w' w1 w2 : Wr} {v : Int} {l : List Int} {S : SF} {N : NF} {W W' : Nat → BitVec 64} {h : He} {ε : Nat → Nat} {Wt : Nat → List We} {c uc : Nat → List Nat} {own : Nat → Nat}
def zrW (W : Nat → BitVec 64) (p n : Nat) : Prop := ∀ i, p ≤ i → i < p + n → W i = 0
theorem zrW.bit {b : Nat} (z : zrW W base n) (hb : b < 64 * n) : tbW W base b = false := sorry
theorem sb_st {x : BitVec 64} {a : Nat} (h : p ≠ base + a / 64) : sbW (wSt W p x) base a n v = wSt (sbW W base a n v) p x := sorry
theorem wBy_st {x : BitVec 64} (h : p < base) : ∀ (l : List Int) (k : Nat) (W : Nat → BitVec 64), wBy base k l (wSt W p x) = wSt (wBy base k l W) p x := sorry
theorem wBy_o {i : Nat} : ∀ (l : List Int) (k : Nat) (W : Nat → BitVec 64), (i < base ∨ base + (k + l.length + 7) / 8 ≤ i) → wBy base k l W i = W i := sorry
theorem tw_pb42 {fi sz : Nat} (m16 : m < 16) (hpo : ∀ μ1 : ab_M, frSv μ μ1 → tBy μ1 7879 (9000 * m + fi) l) (hfl : fi + l.length ≤ 9000) (hsz : l.length ≤ sz) (sz9 : sz ≤ 10000) (pb : p < base) : ∀ (l2 : List Int) (k : Nat) (w : Wr) (μ1 : ab_M), frSv μ μ1 → tWd μ1 w → l.drop k = l2 → base + (sz + 7) / 8 ≤ w.2 → (∀ b, 8 * k ≤ b → b < 64 * ((sz + 7) / 8) → tbW w.1 base b = false) → ∃ μ', (ab_run wt (d + 2) 223 42 [(2, 7756), (0, p), (0, m), (3, 0), (0, fi), (0, (l.length)), (0, sz), (0, base), (0, k)] [] μ1) = some ((3, 0), μ') ∧ tWd μ' (wSt (wBy base k l2 w.1) p (lsW p base 2 sz), w.2) ∧ frSv μ μ' := sorry
theorem tBy.sv {o : Nat} (c : tBy μ 7879 o l) (f : frSv μ μ') : tBy μ' 7879 o l := sorry
theorem tw_putBytesList {k : Int} {fi : Nat} (m16 : m < 16) (c : tWd μ w) (hp : p < w.2) (hpo : tBy μ 7879 (9000 * m + fi) l) (hfl : fi + l.length ≤ 9000) : tWv (ab_run wt (d + 3) 223 0 [(2, 7756), (0, p), (0, m), (0, k), (0, fi), (0, (l.length)), (3, 0), (3, 0), (3, 0)] [] μ) μ (slB k p l w) := sorry
theorem tw_pbB {k : Int} {fi q : Int} {c : Nat} (hc : 23000 < c) (c6 : c ≤ 1000000) (hl : n ≤ 9000) (e : μ 7756 204 = c) : ∃ μ', (ab_run wt (d + 3) 223 0 [(2, 7756), (0, q), (0, m), (0, k), (0, fi), (0, n), (3, 0), (3, 0), (3, 0)] [] μ) = some ((3, 0), μ') ∧ 23000 < μ' 7756 204 ∧ frSv μ μ' := sorry
theorem tw_tg8 (ts : TS μ s S N) (t1 : (t : Int) < S 0 0 0) (t2 : S 2 t 0 = 1) (hj : j < fCt S t) : ∀ (m k x : Nat), k + m = fCt S t → x + m < 1000 → (ab_run wt (d + 1) 298 8 [(2, 7756), (0, (((30 * s + t : Nat) : Int))), (0, (fX s t j)), (0, x), (0, (fX s t k))] [] μ) = some ((0, ((x + tgN S t j m k : Nat) : Int)), μ) := sorry
theorem tw_tagOf (ts : TS μ s S N) (t1 : (t : Int) < S 0 0 0) (t2 : S 2 t 0 = 1) (hj : j < fCt S t) : (ab_run wt (d + 1) 298 0 [(2, 7756), (0, (((30 * s + t : Nat) : Int))), (0, (fX s t j)), (3, 0), (3, 0)] [] μ) = some ((0, ((tgO S t j : Nat) : Int)), μ) := sorry
end Tb
end
section
section Tc
variable {μ μ' μ'' μ0 : ab_M} {d n p t k s m base r j uM pM : Nat} {w w' w1 w2 : Wr} {v : Int} {l : List Int} {S : SF} {N : NF} {W W' : Nat → BitVec 64} {h : He} {ε : Nat → Nat} {Wt : Nat → List We} {c uc : Nat → List Nat} {own : Nat → Nat}
def frSl (μ μ' : ab_M) : Prop := ∀ a i, a ≠ 7860 → (a < 7907 ∨ 7911 < a) → (a ≠ 7756 ∨ i ≠ 130 ∧ i ≠ 175 ∧ (i < 204 ∨ 210 < i)) → μ' a i = μ a i
theorem frSl.refl : frSl μ μ := sorry
theorem frSl.trans (f : frSl μ μ') (g : frSl μ' μ'') : frSl μ μ'' := sorry
theorem frSv.sl (f : frSv μ μ') : frSl μ μ' := sorry
theorem TS.sl (c : TS μ0 s S N) (f : frSl μ0 μ) : TS μ s S N := sorry
theorem tH.sl (H : tH S μ0 m s h.1 (fun _ => true) h.2.1 h.2.2.1 h.2.2.2 ε Wt c uc own uM pM) (f : frSl μ0 μ) : tH S μ m s h.1 (fun _ => true) h.2.1 h.2.2.1 h.2.2.2 ε Wt c uc own uM pM := sorry
def tRun (S : SF) (μ : ab_M) (m s pM : Nat) (ε : Nat → Nat) (t j : Nat) (x : Int) (L : List It) : Prop := ∃ cR R, tSg μ x cR (-2) ∧ tEs S μ m s pM ε t cR (L.map (Prod.mk j) ++ R) ∧ (∀ y ∈ R, y.1 ≠ j) ∧ (∀ i ∈ cR, i < 73600)
theorem tRun.cons {x : Int} {q : It} {L : List It} (h : tRun S μ m s pM ε t j x (q :: L)) : ∃ i : Nat, x = i ∧ i < 73600 ∧ tEn S μ m s pM ε t i (j, q) ∧ tRun S μ m s pM ε t j (μ 7870 i) L := sorry
theorem tRun.nil {x : Int} (h : tRun S μ m s pM ε t j x []) : x = -2 ∨ ∃ i : Nat, x = i ∧ i < 73600 ∧ ∃ k, k ≠ j ∧ k < fCt S t ∧ μ 7869 i = fX s t k := sorry
theorem tH.fnd (H : tH S μ m s h.1 (fun _ => true) h.2.1 h.2.2.1 h.2.2.2 ε Wt c uc own uM pM) (ts : TS μ s S N) (hr : r < h.1) (hj : j < fCt S (h.2.1 r)) : ∃ x : Int, (∀ d, (ab_run wt (d + 1) 61 0 [(2, 7756), (0, (ε r)), (0, (fX s (h.2.1 r) j)), (3, 0)] [] μ) = some ((0, x), μ)) ∧ (h.2.2.1 r j = [] → x = -2) ∧ (h.2.2.1 r j ≠ [] → tRun S μ m s pM ε (h.2.1 r) j x (h.2.2.1 r j)) := sorry
theorem tH.k1 (H : tH S μ m s h.1 (fun _ => true) h.2.1 h.2.2.1 h.2.2.2 ε Wt c uc own uM pM) (ts : TS μ s S N) (hr : r < h.1) (hj : j < fCt S (h.2.1 r)) (z12 : S 12 (h.2.1 r) j = 12) {q : It} (hq : q ∈ h.2.2.1 r j) : q.2.2.2.2 < h.1 ∧ r < q.2.2.2.2 ∧ h.2.1 q.2.2.2.2 = (S 13 (h.2.1 r) j).toNat := sorry
def sdI (S : SF) (t base : Nat) (v : Nat → List It) (j : Nat) (W : Nat → BitVec 64) : Prop := ∀ b, b < 64 * (S 5 t 0).toNat → tbW W base b = true → ∃ i, i < j ∧ v i ≠ [] ∧ (0 ≤ S 16 t i ∧ S 16 t i ≤ (b : Int) ∧ (b : Int) < S 16 t i + nbF S t i ∨ 0 ≤ S 18 t i ∧ S 18 t i ≤ (b : Int) ∧ (b : Int) < S 18 t i + fbF S t i)
theorem sdJ_o {i : Nat} (la : fLa S t j) (hi : i < base ∨ base + (S 5 t 0).toNat ≤ i) {L : List It} : sdJ S t base j L W i = W i := sorry
theorem sdF_o {v : Nat → List It} {i : Nat} (la : ∀ j, j < fCt S t → fLa S t j) (hi : i < base ∨ base + (S 5 t 0).toNat ≤ i) : ∀ (m j : Nat) (W : Nat → BitVec 64), j + m = fCt S t → sdF S t base v m j W i = W i := sorry
end Tc
end
section
section Tc
variable {μ μ' μ'' μ0 : ab_M} {d n p t k s m base r j uM pM : Nat} {w w' w1 w2 : Wr} {v : Int} {l : List Int} {S : SF} {N : NF} {W W' : Nat → BitVec 64} {h : He} {ε : Nat → Nat} {Wt : Nat → List We} {c uc : Nat → List Nat} {own : Nat → Nat} {V : Nat → List It}
theorem sdI.le (i : sdI S t base V j W) {j' : Nat} (l : j ≤ j') : sdI S t base V j' W := sorry
theorem sdI.set {a : Nat} {x : Int} (i : sdI S t base V (j + 1) W) (h64 : a % 64 + n ≤ 64) (hv : V j ≠ []) (hr : 0 ≤ S 16 t j ∧ S 16 t j = a ∧ nbF S t j = n ∨ 0 ≤ S 18 t j ∧ S 18 t j = a ∧ fbF S t j = n) : sdI S t base V (j + 1) (sbW W base a n x) := sorry
theorem sdI.z (la : laOK S) (t1 : (t : Int) < S 0 0 0) (t2 : S 2 t 0 = 1) (i : sdI S t base V j W) (hj : j < fCt S t) (hv : V j ≠ []) (on : ∀ i, i < fCt S t → i ≠ j → 0 ≤ S 15 t i → S 15 t j = S 15 t i → V i ≠ [] → V j = []) :
    (0 ≤ S 16 t j → ∀ b : Nat, S 16 t j ≤ b → (b : Int) < S 16 t j + nbF S t j → tbW W base b = false) ∧ (0 ≤ S 18 t j → ∀ b : Nat, S 18 t j ≤ b → (b : Int) < S 18 t j + fbF S t j → tbW W base b = false) := sorry
theorem al_mod {a n : Nat} (h : (a : Int) % (n : Int) = 0) (hn : n = 1 ∨ n = 16 ∨ n = 32 ∨ n = 64) : a % 64 + n ≤ 64 := sorry
theorem tw_pd12 (la : laOK S) (H : tH S μ0 m s h.1 (fun _ => true) h.2.1 h.2.2.1 h.2.2.2 ε Wt c uc own uM pM) (ts : TS μ0 s S N) (hr : r < h.1) (hi : hI S h) (sh : hShp S h) : ∀ (q j : Nat) (μ : ab_M) (w : Wr), j + q = fCt S (h.2.1 r) → frSl μ0 μ → tWd μ w → base + (S 5 (h.2.1 r) 0).toNat ≤ w.2 → sdI S (h.2.1 r) base (h.2.2.1 r) j w.1 → ∃ μ', (ab_run wt (d + 4) 224 12 [(2, 7756), (0, (ε r)), (0, base), (0, (((30 * s + h.2.1 r : Nat) : Int))), (0, (((fX s (h.2.1 r) j : Nat) : Int))), (3, 0)] [] μ) = some ((3, 0), μ') ∧ tWd μ' (sdF S (h.2.1 r) base (h.2.2.1 r) q j w.1, w.2) ∧ frSv μ μ' := sorry
theorem tw_putData (la : laOK S) (H : tH S μ0 m s h.1 (fun _ => true) h.2.1 h.2.2.1 h.2.2.2 ε Wt c uc own uM pM) (ts : TS μ0 s S N) (hr : r < h.1) (hi : hI S h) (sh : hShp S h) (f : frSl μ0 μ) (cw : tWd μ w) (hw : base + (S 5 (h.2.1 r) 0).toNat ≤ w.2) (hz : zrW w.1 base (S 5 (h.2.1 r) 0).toNat) : ∃ μ', (ab_run wt (d + 4) 224 0 [(2, 7756), (0, (ε r)), (0, base), (3, 0), (3, 0), (3, 0)] [] μ) = some ((3, 0), μ') ∧ tWd μ' (sdR S h r base w.1, w.2) ∧ frSv μ μ' := sorry
end Tc
end
section
section Tp
variable {μ μ' μ'' μ0 : ab_M} {d n p t k s m K B r j : Nat} {S : SF} {N : NF}
def frPl (μ μ' : ab_M) : Prop := ∀ a i, a ≠ 7860 → (a ≠ 7756 ∨ i ≠ 130) → μ' a i = μ a i
theorem frPl.trans (f : frPl μ μ') (g : frPl μ' μ'') : frPl μ μ'' := sorry
theorem tw_pl13 {a : Nat} (an : a + n < 256) (ht : ∀ k, a ≤ k → k < a + n → μ 7860 k = 0) : ∀ (w x : Nat), x + w = a + n → a ≤ x → (ab_run wt (d + 1) 210 13 [(2, 7756), (0, n), (0, a), (0, 1), (0, x)] [] μ) = (ab_run wt (d + 1) 210 4 [(2, 7756), (0, n), (0, a), (0, 1), (3, 0)] [] μ) := sorry
theorem tw_pl61 {a : Nat} (an : a + n < 256) : ∀ (w x : Nat) (μ : ab_M), x + w = a + n → a ≤ x → μ 7756 130 = B → ∃ μ', (ab_run wt (d + 1) 210 61 [(2, 7756), (0, n), (0, a), (3, 0), (0, x)] [] μ) = some ((0, (a : Int)), μ') ∧ μ' 7756 130 = ((max B (a + n) : Nat) : Int) ∧ (∀ k, μ' 7860 k = if x ≤ k ∧ k < a + n then 1 else μ 7860 k) ∧ frPl μ μ' := sorry
theorem tw_pl4 (n1 : 1 ≤ n) (n64 : n ≤ 64) (k64 : K ≤ 64) (ht : ∀ k, k < 256 → μ 7860 k = if k < K then 1 else 0) : ∀ (w i : Nat), i + w = (K + n - 1) / n → (ab_run wt (d + 1) 210 4 [(2, 7756), (0, n), (0, (((i * n : Nat) : Int))), (0, 0), (3, 0)] [] μ) = (ab_run wt (d + 1) 210 4 [(2, 7756), (0, n), (0, ((((K + n - 1) / n * n : Nat) : Int))), (0, 0), (3, 0)] [] μ) := sorry
theorem tw_placeOf (n1 : 1 ≤ n) (n64 : n ≤ 64) (k64 : K ≤ 64) (ht : ∀ k, k < 256 → μ 7860 k = if k < K then 1 else 0) (hb : μ 7756 130 = B) : ∃ μ', (ab_run wt (d + 1) 210 0 [(2, 7756), (0, n), (3, 0), (3, 0), (3, 0)] [] μ) = some ((0, (((K + n - 1) / n * n : Nat) : Int)), μ') ∧ μ' 7756 130 = ((max B ((K + n - 1) / n * n + n) : Nat) : Int) ∧ (K = 0 → ∀ k, k < 256 → μ' 7860 k = if k < n then 1 else 0) ∧ frPl μ μ' := sorry
theorem tw_pa2 {f : Int} : ∀ (w k : Nat) (μ : ab_M), k + w = 256 → (∀ i, i < k → μ 7860 i = 0) → ∃ μ', (ab_run wt (d + 1) 197 2 [(2, 7756), (0, f), (0, k)] [] μ) = (ab_run wt (d + 1) 197 2 [(2, 7756), (0, f), (0, 256)] [] μ') ∧ (∀ i, i < 256 → μ' 7860 i = 0) ∧ ∀ a i, a ≠ 7860 → μ' a i = μ a i := sorry
theorem tw_pairLayout (ts : TS μ s S N) (t1 : (t : Int) < S 0 0 0) (t2 : S 2 t 0 = 1) (hj : j < fCt S t) (m3 : S 11 t j = 3) : ∃ μ', (ab_run wt (d + 2) 197 0 [(2, 7756), (0, (fX s t j)), (3, 0)] [] μ) = some ((3, 0), μ') ∧ μ' 7756 205 = ((mpA S t j : Nat) : Int) ∧ μ' 7756 206 = ((mpB S t j : Nat) : Int) ∧ (μ' 7756 207 = if S 14 t j = 9 then -2 else 0) ∧ (μ' 7756 208 = if kBits (S 12 t j) = 0 then -2 else ((mpS S t j : Nat) : Int)) ∧ (μ' 7756 209 = if S 14 t j = 9 then 0 else -2) ∧ (μ' 7756 210 = if kBits (S 12 t j) = 0 then (if S 14 t j = 9 then 1 else 0) else -2) ∧ ∀ a i, a ≠ 7860 → (a ≠ 7756 ∨ i ≠ 130 ∧ (i < 205 ∨ 210 < i)) → μ' a i = μ a i := sorry
end Tp
end
section
section Tg
variable {μ μ' μ'' μ0 : ab_M} {d n p t k s m base r j uM pM G : Nat} {w w' w1 w2 : Wr} {v : Int} {l : List Int} {S : SF} {N : NF} {W W' : Nat → BitVec 64} {h : He} {ε : Nat → Nat} {Wt : Nat → List We} {c uc : Nat → List Nat} {own : Nat → Nat} {Q : Nat → Nat → Wr → Wr} {V : Nat → List It}
def swG (μ : ab_M) (G : Nat) (e at' pt li : Int) : Prop := μ 7756 175 = ((G + 1 : Nat) : Int) ∧ μ 7908 G = e ∧ μ 7909 G = at' ∧ μ 7910 G = pt ∧ μ 7911 G = li
def swL (G : Nat) (μ μ' : ab_M) : Prop := ∀ a i, 7908 ≤ a → a ≤ 7911 → i < G → μ' a i = μ a i
theorem swL.refl : swL G μ μ := sorry
theorem swL.trans (a : swL G μ μ') (b : swL G μ' μ'') : swL G μ μ'' := sorry
theorem swL.le {G' : Nat} (a : swL G μ μ') (l : G' ≤ G) : swL G' μ μ' := sorry
theorem frSv.lv (f : frSv μ μ') : swL G μ μ' := sorry
theorem frSv.g {e at' pt li : Int} (f : frSv μ μ') (g : swG μ G e at' pt li) : swG μ' G e at' pt li := sorry
def swZ (d m : Nat) (run : ab_R) (μ : ab_M) (G : Nat) (w : Wr) : Prop := if w.2 ≤ 23000 then ∃ μ', run = (ab_run wt (d + 7) 337 98 [(2, 7756), (0, m), (3, 0), (3, 0), (3, 0), (3, 0), (3, 0)] [] μ') ∧ μ' 7756 175 = G ∧ tWd μ' w ∧ frSl μ μ' ∧ swL G μ μ' else ∃ μ', run = some ((0, 0), μ') ∧ frSl μ μ'
theorem swZ.to {run : ab_R} (x : swZ d m run μ' G w) (f : frSl μ μ') (b : swL G μ μ') : swZ d m run μ G w := sorry
theorem swZ.seq {run : ab_R} (x : swZ d m run μ (G + 1) w1) (hle : w1.2 ≤ w2.2) {e at' pt li : Int} (g : μ 7908 G = e ∧ μ 7909 G = at' ∧ μ 7910 G = pt ∧ μ 7911 G = li) (hk : ∀ μ', tWd μ' w1 → frSl μ μ' → swG μ' G e at' pt li → swZ d m (ab_run wt (d + 7) 337 98 [(2, 7756), (0, m), (3, 0), (3, 0), (3, 0), (3, 0), (3, 0)] [] μ') μ' G w2) : swZ d m run μ G w2 := sorry
theorem swZ.cal {run : ab_R} (x : tWv run μ w1) (hle : w1.2 ≤ w2.2) {e at' pt li : Int} (g : swG μ G e at' pt li) (hk : ∀ μ', tWd μ' w1 → frSv μ μ' → swG μ' G e at' pt li → swZ d m (ab_run wt (d + 7) 337 98 [(2, 7756), (0, m), (3, 0), (3, 0), (3, 0), (3, 0), (3, 0)] [] μ') μ' G w2) : swZ d m (ab_cal run 3 (fun r1 μ1 => some ((4, r1), μ1)) (fun _ μ1 => (ab_run wt (d + 7) 337 98 [(2, 7756), (0, m), (3, 0), (3, 0), (3, 0), (3, 0), (3, 0)] [] μ1))) μ G w2 := sorry
theorem tw_openWords {e at' li : Int} (hg : μ 7756 175 = (G : Int)) (g64 : G < 64) : ∃ μ', (∀ d, (ab_run wt (d + 1) 189 0 [(2, 7756), (0, e), (0, (at')), (0, li)] [] μ) = some ((3, 0), μ')) ∧ swG μ' G e at' 0 li ∧ (∀ a i, (a < 7908 ∨ 7911 < a ∨ i ≠ G) → (a ≠ 7756 ∨ i ≠ 175) → μ' a i = μ a i) ∧ (∀ w, tWd μ w → tWd μ' w) ∧ frSl μ μ' ∧ swL G μ μ' := sorry
def TSw (d m : Nat) (S : SF) (h : He) (Q : Nat → Nat → Wr → Wr) (μ0 : ab_M) (ε : Nat → Nat) (r G : Nat) : Prop := ∀ (μ : ab_M) (w : Wr) (at' : Nat), frSl μ0 μ → tWd μ w → swG μ G (ε r) (at' : Int) 0 (-2) → at' + (S 5 (h.2.1 r) 0).toNat + (S 6 (h.2.1 r) 0).toNat ≤ w.2 → swZ d m (ab_run wt (d + 7) 337 98 [(2, 7756), (0, m), (3, 0), (3, 0), (3, 0), (3, 0), (3, 0)] [] μ) μ G (Q r (at' + (S 5 (h.2.1 r) 0).toNat) w)
theorem spF_none : ∀ (q k : Nat) (w : Wr), (∀ j, k ≤ j → j < k + q → S 17 t j = (p : Int) → V j = []) → spF S h Q t base p V q k w = w := sorry
theorem spF_one {j0 : Nat} : ∀ (q k : Nat) (w : Wr), k ≤ j0 → j0 < k + q → (∀ j, k ≤ j → j < k + q → j ≠ j0 → S 17 t j = (p : Int) → V j = []) → spF S h Q t base p V q k w = spJ S h Q t base p j0 (V j0) w := sorry
theorem tw_po10 (H : tH S μ m s h.1 (fun _ => true) h.2.1 h.2.2.1 h.2.2.2 ε Wt c uc own uM pM) (ts : TS μ s S N) (hr : r < h.1) : ∀ (q k : Nat) (x4 : Int), k + q = fCt S (h.2.1 r) → ((∀ j, k ≤ j → j < fCt S (h.2.1 r) → S 17 (h.2.1 r) j = (p : Int) → h.2.2.1 r j = []) → (ab_run wt (d + 2) 213 10 [(2, 7756), (0, (ε r)), (0, (((30 * s + h.2.1 r : Nat) : Int))), (0, p), (0, x4), (0, (((fX s (h.2.1 r) k : Nat) : Int)))] [] μ) = some ((0, x4), μ)) ∧ ∀ j0, k ≤ j0 → j0 < fCt S (h.2.1 r) → S 17 (h.2.1 r) j0 = (p : Int) → h.2.2.1 r j0 ≠ [] → (∀ j, k ≤ j → j < fCt S (h.2.1 r) → j ≠ j0 → S 17 (h.2.1 r) j = (p : Int) → h.2.2.1 r j = []) → ∃ x, (ab_run wt (d + 2) 213 10 [(2, 7756), (0, (ε r)), (0, (((30 * s + h.2.1 r : Nat) : Int))), (0, p), (0, x4), (0, (((fX s (h.2.1 r) k : Nat) : Int)))] [] μ) = some ((0, x), μ) ∧ tRun S μ m s pM ε (h.2.1 r) j0 x (h.2.2.1 r j0) := sorry
theorem tw_pointed (la : laOK S) (sh : hShp S h) (H : tH S μ m s h.1 (fun _ => true) h.2.1 h.2.2.1 h.2.2.2 ε Wt c uc own uM pM) (ts : TS μ s S N) (hr : r < h.1) : ((ab_run wt (d + 2) 213 0 [(2, 7756), (0, (ε r)), (0, (((30 * s + h.2.1 r : Nat) : Int))), (0, p), (3, 0), (3, 0)] [] μ) = some ((0, -2), μ) ∧ ∀ (base : Nat) (w : Wr), spF S h Q (h.2.1 r) base p (h.2.2.1 r) (fCt S (h.2.1 r)) 0 w = w) ∨ ∃ x j0, (ab_run wt (d + 2) 213 0 [(2, 7756), (0, (ε r)), (0, (((30 * s + h.2.1 r : Nat) : Int))), (0, p), (3, 0), (3, 0)] [] μ) = some ((0, x), μ) ∧ j0 < fCt S (h.2.1 r) ∧ S 17 (h.2.1 r) j0 = (p : Int) ∧ h.2.2.1 r j0 ≠ [] ∧ tRun S μ m s pM ε (h.2.1 r) j0 x (h.2.2.1 r j0) ∧ ∀ (base : Nat) (w : Wr), spF S h Q (h.2.1 r) base p (h.2.2.1 r) (fCt S (h.2.1 r)) 0 w = spJ S h Q (h.2.1 r) base p j0 (h.2.2.1 r j0) w := sorry
end Tg
end
section
section Th
variable {μ μ' μ'' μ0 : ab_M} {d n p t k s m base r j uM pM G : Nat} {w w' w1 w2 : Wr} {v : Int} {l : List Int} {S : SF} {N : NF} {W W' : Nat → BitVec 64} {h : He} {ε : Nat → Nat} {Wt : Nat → List We} {c uc : Nat → List Nat} {own : Nat → Nat} {Q : Nat → Nat → Wr → Wr} {V : Nat → List It}
def tSt (d m : Nat) (run : ab_R) (μ : ab_M) (G : Nat) (w : Wr) : Prop := R3 run (fun μ' => swZ d m (ab_run wt (d + 7) 337 98 [(2, 7756), (0, m), (3, 0), (3, 0), (3, 0), (3, 0), (3, 0)] [] μ') μ G w)
theorem tSt.ret {run : ab_R} (x : tSt d m run μ G w) : tSt d m (ab_cal run 3 (fun r1 μ1 => some ((4, r1), μ1)) (fun _ μ1 => some ((3, 0), μ1))) μ G w := sorry
theorem tSt.to {run : ab_R} (x : tSt d m run μ' G w) (f : frSl μ μ') (b : swL G μ μ') : tSt d m run μ G w := sorry
theorem swZ.big (hg : μ 7756 175 = ((G + 1 : Nat) : Int)) (hw : 23000 < μ 7756 204) (h2 : 23000 < w.2) {G' : Nat} : swZ d m (ab_run wt (d + 7) 337 98 [(2, 7756), (0, m), (3, 0), (3, 0), (3, 0), (3, 0), (3, 0)] [] μ) μ G' w := sorry
theorem tSt.wv {run : ab_R} (x : tWv run μ w) (hg : μ 7756 175 = ((G + 1 : Nat) : Int)) : tSt d m run μ (G + 1) w := sorry
theorem tw_wtR (la : laOK S) (H : tH S μ0 m s h.1 (fun _ => true) h.2.1 h.2.2.1 h.2.2.2 ε Wt c uc own uM pM) (ts : TS μ0 s S N) (hr : r < h.1) (hi : hI S h) (sh : hShp S h) (hQ : ∀ r p w, w.2 ≤ (Q r p w).2) (tr : TSw d m S h Q μ0 ε r (G + 1)) (g64 : G + 1 < 64) (f : frSl μ0 μ) (cw : tWd μ w) (hg : μ 7756 175 = ((G + 1 : Nat) : Int)) (hp : p < w.2) : tSt d m (ab_run wt (d + 5) 339 0 [(2, 7756), (0, m), (0, (ε r)), (0, 12), (0, p), (3, 0), (3, 0), (3, 0)] [] μ) μ (G + 1) (slR S h Q r p w) := sorry
theorem tw_wtB {kd : Int} {i : Nat} (m16 : m < 16) (p9 : pM ≤ 9000) (kn : kd ≠ 12) (hi : i < 73600) (mx : tMx μ m pM 7874 7875 i l) (cw : tWd μ w) (hp : p < w.2) : tWv (ab_run wt (d + 5) 339 0 [(2, 7756), (0, m), (0, i), (0, kd), (0, p), (3, 0), (3, 0), (3, 0)] [] μ) μ (if l ≠ [] then slB kd p l w else w) := sorry
theorem swG.row {e at' pt li : Int} (g : swG μ G e at' pt li) (cw : tWd μ w) (g64 : G < 64) (l0 : 0 ≤ li) : (ab_run wt (d + 7) 337 98 [(2, 7756), (0, m), (3, 0), (3, 0), (3, 0), (3, 0), (3, 0)] [] μ) = ab_cal (ab_run wt (d + 6) 336 0 [(2, 7756), (0, m), (0, ((G : Int))), (3, 0), (3, 0), (3, 0), (3, 0), (3, 0)] [] μ) 3 (fun r1 μ1 => some ((4, r1), μ1)) (fun _ μ1 => (ab_run wt (d + 7) 337 98 [(2, 7756), (0, m), (3, 0), (3, 0), (3, 0), (3, 0), (3, 0)] [] μ1)) := sorry
theorem tw_rowN {x at' pt : Int} (tf : fX s t j < 3600) (ne : ∀ k, k < fCt S t → k ≠ j → fX s t k ≠ fX s t j) (rn : tRun S μ m s pM ε t j x []) (cw : tWd μ w) (g : swG μ G x at' pt (fX s t j)) (g64 : G < 64) : swZ d m (ab_run wt (d + 7) 337 98 [(2, 7756), (0, m), (3, 0), (3, 0), (3, 0), (3, 0), (3, 0)] [] μ) μ G w := sorry
theorem tRun.sl {x : Int} {L : List It} (rn : tRun S μ0 m s pM ε t j x L) (f : frSl μ0 μ) : tRun S μ m s pM ε t j x L := sorry
theorem swG.nx {e at' pt li e1 at1 : Int} (g : swG μ G e at' pt li) (f : ∀ a i, (a ≠ 7908 ∧ a ≠ 7909 ∨ i ≠ G) → μ' a i = μ a i) (h1 : μ' 7908 G = e1) (h2 : μ' 7909 G = at1) : swG μ' G e1 at1 pt li ∧ frSl μ μ' ∧ swL G μ μ' ∧ ∀ w, tWd μ w → tWd μ' w := sorry
theorem tw_rowR (H : tH S μ0 m s h.1 (fun _ => true) h.2.1 h.2.2.1 h.2.2.2 ε Wt c uc own uM pM) (ts : TS μ0 s S N) (t1 : (t : Int) < S 0 0 0) (t2 : S 2 t 0 = 1) (hj : j < fCt S t) (m2 : S 11 t j = 2) (k12 : S 12 t j = 12) (hQ : ∀ r p w, w.2 ≤ (Q r p w).2) (g64 : G + 1 < 64) : ∀ (L : List It) (x pt : Int) (at' : Nat) (μ : ab_M) (w : Wr), tRun S μ0 m s pM ε t j x L → (∀ q ∈ L, q.2.2.2.2 < h.1 ∧ h.2.1 q.2.2.2.2 = (S 13 t j).toNat ∧ TSw d m S h Q μ0 ε q.2.2.2.2 (G + 1)) → frSl μ0 μ → tWd μ w → swG μ G x at' pt (fX s t j) → at' + L.length * ((S 5 (S 13 t j).toNat 0).toNat + (S 6 (S 13 t j).toNat 0).toNat) ≤ w.2 → swZ d m (ab_run wt (d + 7) 337 98 [(2, 7756), (0, m), (3, 0), (3, 0), (3, 0), (3, 0), (3, 0)] [] μ) μ G (spL Q ((S 5 (S 13 t j).toNat 0).toNat + (S 6 (S 13 t j).toNat 0).toNat) (at' + (S 5 (S 13 t j).toNat 0).toNat) L w) := sorry
end Th
end
section
section Ti
variable {μ μ' μ'' μ0 : ab_M} {d n p t k s m base r j uM pM G : Nat} {w w' w1 w2 : Wr} {v : Int} {l : List Int} {S : SF} {N : NF} {W W' : Nat → BitVec 64} {h : He} {ε : Nat → Nat} {Wt : Nat → List We} {c uc : Nat → List Nat} {own : Nat → Nat} {Q : Nat → Nat → Wr → Wr} {V : Nat → List It}
def tWq (μ : ab_M) (w : Wr) : Prop := (w.2 ≤ 23000 → tWd μ w) ∧ (23000 < w.2 → μ 7756 204 = (w.2 : Int))
theorem tWq.wv (x : tWq μ w) : tWv (some ((3, 0), μ)) μ w := sorry
theorem tw_wtRB (H : tH S μ m s h.1 (fun _ => true) h.2.1 h.2.2.1 h.2.2.2 ε Wt c uc own uM pM) (ts : TS μ s S N) (hr : r < h.1) {b : Nat} {q : Int} (hc : 23000 < b) (c6 : b ≤ 1000000) (e : μ 7756 204 = b) : ∃ μ', (ab_run wt (d + 5) 339 0 [(2, 7756), (0, m), (0, (ε r)), (0, 12), (0, q), (3, 0), (3, 0), (3, 0)] [] μ) = some ((3, 0), μ') ∧ 23000 < μ' 7756 204 ∧ frSv μ μ' := sorry
theorem tw_wtBB {kd q : Int} {i b : Nat} (p9 : pM ≤ 9000) (kn : kd ≠ 12) (hi : i < 73600) (mx : tMx μ m pM 7874 7875 i l) (hc : 23000 < b) (c6 : b ≤ 1000000) (e : μ 7756 204 = b) : ∃ μ', (ab_run wt (d + 5) 339 0 [(2, 7756), (0, m), (0, i), (0, kd), (0, q), (3, 0), (3, 0), (3, 0)] [] μ) = some ((3, 0), μ') ∧ 23000 < μ' 7756 204 ∧ frSv μ μ' := sorry
theorem tSt.bg {run : ab_R} {w : Wr} (hg : μ 7756 175 = ((G + 1 : Nat) : Int)) (h2 : 23000 < w.2) (x : ∃ μ', run = some ((3, 0), μ') ∧ 23000 < μ' 7756 204 ∧ frSv μ μ') : tSt d m run μ (G + 1) w := sorry
theorem tw_rw146 (la : laOK S) (H : tH S μ0 m s h.1 (fun _ => true) h.2.1 h.2.2.1 h.2.2.2 ε Wt c uc own uM pM) (ts : TS μ0 s S N) (hi : hI S h) (sh : hShp S h) (t1 : (t : Int) < S 0 0 0) (t2 : S 2 t 0 = 1) (hj : j < fCt S t) (m3 : S 11 t j = 3) (hQ : ∀ r p w, w.2 ≤ (Q r p w).2) (g64 : G + 1 < 64) {q : It} {i : Nat} (i7 : i < 73600) (en : tEn S μ m s pM ε t i (j, q)) (hc : S 12 t j = 12 → q.2.2.2.2 < h.1 ∧ TSw d m S h Q μ0 ε q.2.2.2.2 (G + 1)) (f : frSl μ0 μ) (x : tWq μ w) (w2 : w.2 ≤ 1000000) (hg : μ 7756 175 = ((G + 1 : Nat) : Int)) (ip : μ 7756 210 = if kBits (S 12 t j) = 0 then (if S 14 t j = 9 then 1 else 0) else -2) (hp : kBits (S 12 t j) = 0 → (if S 14 t j = 9 then p + 1 else p) < w.2) : tSt d m (ab_run wt (d + 6) 336 146 [(2, 7756), (0, m), (3, 0), (0, i), (0, (((fX s t j : Nat) : Int))), (3, 0), (3, 0), (0, p)] [] μ) μ (G + 1) (smI S h Q t j (if S 14 t j = 9 then p + 1 else p) q w) := sorry
theorem tw_rowM (la : laOK S) (H : tH S μ0 m s h.1 (fun _ => true) h.2.1 h.2.2.1 h.2.2.2 ε Wt c uc own uM pM) (ts : TS μ0 s S N) (hi : hI S h) (sh : hShp S h) (t1 : (t : Int) < S 0 0 0) (t2 : S 2 t 0 = 1) (hj : j < fCt S t) (m3 : S 11 t j = 3) (hQ : ∀ r p w, w.2 ≤ (Q r p w).2) (g64 : G + 1 < 64) : ∀ (L : List It) (x pt : Int) (at' : Nat) (μ : ab_M) (w : Wr), tRun S μ0 m s pM ε t j x L → (S 12 t j = 12 → ∀ q ∈ L, q.2.2.2.2 < h.1 ∧ TSw d m S h Q μ0 ε q.2.2.2.2 (G + 1)) → frSl μ0 μ → tWd μ w → swG μ G x at' pt (fX s t j) → at' + L.length * (mpA S t j + mpB S t j) ≤ w.2 → swZ d m (ab_run wt (d + 7) 337 98 [(2, 7756), (0, m), (3, 0), (3, 0), (3, 0), (3, 0), (3, 0)] [] μ) μ G (smP S h Q t j (mpA S t j + mpB S t j) (at' + mpA S t j) L w) := sorry
end Ti
end
section
section Tj
variable {μ μ' μ'' μ0 : ab_M} {d n p t k s m base r j uM pM G : Nat} {w w' w1 w2 : Wr} {v : Int} {l : List Int} {S : SF} {N : NF} {W W' : Nat → BitVec 64} {h : He} {ε : Nat → Nat} {Wt : Nat → List We} {c uc : Nat → List Nat} {own : Nat → Nat} {Q : Nat → Nat → Wr → Wr} {V : Nat → List It}
theorem tH.len (H : tH S μ0 m s h.1 (fun _ => true) h.2.1 h.2.2.1 h.2.2.2 ε Wt c uc own uM pM) (hr : r < h.1) : (h.2.2.1 r j).length ≤ 73600 := sorry
theorem tRun.items {i : Nat} {L : List It} (rn : tRun S μ m s pM ε t j (i : Int) L) (hL : L ≠ []) (len : L.length ≤ 73600) : (ab_run wt (d + 1) 114 0 [(2, 7756), (0, i), (3, 0), (3, 0)] [] μ) = some ((0, (L.length : Int)), μ) := sorry
theorem tw_wlN {b : Nat} {sr : Int} (sn : sr ≠ 6) (hb : b = 1 ∨ b = 16 ∨ b = 32 ∨ b = 64) (n6 : n ≤ 73600) : ∀ (L : List It) (k : Nat) (x : Int) (μ : ab_M) (w : Wr), tRun S μ m s pM ε t j x L → k + L.length = n → tWd μ w → base + (n * b + 63) / 64 ≤ w.2 → (∀ i, k * b ≤ i → i < n * b → tbW w.1 base i = false) → ∃ μ', (ab_run wt (d + 2) 332 206 [(2, 7756), (0, m), (3, 0), (0, (fX s t j)), (3, 0), (0, n), (0, sr), (0, b), (0, base), (0, x), (0, k), (3, 0)] [] μ) = some ((3, 0), μ') ∧ tWd μ' (slN base b k L w.1, w.2) ∧ frSv μ μ' := sorry
theorem tw_wlT (m16 : m < 16) (p9 : pM ≤ 9000) (n6 : n ≤ 73600) (f36 : fX s t j < 3600) (b6 : base ≤ 23000) : ∀ (L : List It) (k : Nat) (x : Int) (μ : ab_M) (w : Wr), tRun S μ m s pM ε t j x L → μ 7780 (fX s t j) = S 12 t j → μ 7756 175 = ((G + 1 : Nat) : Int) → k + L.length = n → tWd μ w → base + n ≤ w.2 → tSt d m (ab_run wt (d + 5) 332 206 [(2, 7756), (0, m), (3, 0), (0, (fX s t j)), (3, 0), (0, n), (0, 6), (0, 64), (0, base), (0, x), (0, k), (3, 0)] [] μ) μ (G + 1) (slT (S 12 t j) base k L w) := sorry
theorem sdR_o {i : Nat} (la : laOK S) (t1 : (h.2.1 r : Int) < S 0 0 0) (t2 : S 2 (h.2.1 r) 0 = 1) (hi : i < base ∨ base + (S 5 (h.2.1 r) 0).toNat ≤ i) : sdR S h r base W i = W i := sorry
theorem tw_wlR {T A B e0 : Nat} (la : laOK S) (H : tH S μ0 m s h.1 (fun _ => true) h.2.1 h.2.2.1 h.2.2.2 ε Wt c uc own uM pM) (ts : TS μ0 s S N) (hi : hI S h) (sh : hShp S h) (k12 : S 12 t j = 12) (hA : (S 5 T 0).toNat = A) (n6 : n ≤ 73600) (ab : A + B ≤ 100) : ∀ (L : List It) (k P : Nat) (x : Int) (μ : ab_M) (w : Wr), tRun S μ m s pM ε t j x L → P = base + 1 + k * (A + B) → (∀ q ∈ L, q.2.2.2.2 < h.1 ∧ h.2.1 q.2.2.2.2 = T) → frSl μ0 μ → k + L.length = n → tWd μ w → P + L.length * (A + B) ≤ w.2 → zrW w.1 P (L.length * (A + B)) → ∃ μ', (ab_run wt (d + 5) 332 106 [(2, 7756), (3, 0), (0, e0), (0, (fX s t j)), (3, 0), (0, n), (3, 0), (3, 0), (0, (((A + B : Nat) : Int))), (0, base), (0, x), (0, k)] [] μ) = ab_cal (ab_run wt (d + 4) 189 0 [(2, 7756), (0, e0), (0, (((base + 1 : Nat) : Int))), (0, (fX s t j))] [] μ') 3 (fun r2 μ2 => some ((4, r2), μ2)) (fun _ μ2 => some ((3, 0), μ2)) ∧ tWd μ' (sdL S h (A + B) P L w.1, w.2) ∧ frSv μ μ' := sorry
end Tj
end
