set_option maxRecDepth 16384
section
section Xq
variable {T : Nat → Int} {n : Nat} {k k2 k3 : Tok} {S : SF} {N : NF} {bd : Nat} {h h' : He} {K K' : List Fr} {X Y Z : Xs} {f : Flt} {key : Int × List Int} {r j : Nat} {v : Int} {l : List Int}
def xHq (S : SF) (N : NF) (T : Nat → Int) (n bd : Nat) (h : He) (K : List Fr) (h' : He) (K' : List Fr) : Prop :=
  (h' = h ∧ (K' = K ∨ (∃ F, K = F :: K') ∨ ∃ F K0 G w j, K = F :: K0 ∧ G.1 = F.1 ∧ G.2.1 = F.2.1 ∧ w ≠ 0 ∧ K' = (w, F.2.1, j, []) :: G :: K0)) ∨
  ∃ F K0 G j key, K = F :: K0 ∧ G.1 = F.1 ∧ G.2.1 = F.2.1 ∧ F.2.1 < h.1 ∧ j < fCt S (h.2.1 F.2.1) ∧
    ((S 12 (h.2.1 F.2.1) j ≠ 12 ∧ ∃ k' p, tkO T n k' ∧ rdS S N T n (S 12 (h.2.1 F.2.1) j) (S 13 (h.2.1 F.2.1) j).toNat k' = .inr p ∧ h' = hSet S N h F.2.1 j key p.1 p.2.1 ∧ K' = G :: K0) ∨
     (S 12 (h.2.1 F.2.1) j = 12 ∧ bd + recs (G :: K0) + 1 ≤ 12 ∧ h' = hRec S h F.2.1 j key ∧ K' = (0, h.1, 0, []) :: G :: K0))
theorem xVal_q {F G : Fr} {K0 : List Fr} (g1 : G.1 = F.1) (g2 : G.2.1 = F.2.1) (tk : tkO T n k) (hr : F.2.1 < h.1) (hj : j < fCt S (h.2.1 F.2.1)) (e : xVal S N T n bd h (G :: K0) F.2.1 j key k = .inr X) : xHq S N T n bd h (F :: K0) X.2.1 X.2.2 := sorry
theorem xStep_q (hT : ∀ k, k < n → 0 ≤ T k ∧ T k < 256) (q : xOK S X) (tk : tkO T n X.1) (e : xStep S N T n bd X = .inr Y) : xHq S N T n bd X.2.1 X.2.2 Y.2.1 Y.2.2 := sorry
theorem xIt_q {P : He → List Fr → Prop} (hT : ∀ k, k < n → 0 ≤ T k ∧ T k < 256) (st : ∀ h K h' K', P h K → xHq S N T n bd h K h' K' → P h' K') : ∀ (c : Nat) (X Z : Xs), xOK S X → tkO T n X.1 → P X.2.1 X.2.2 → xIt S N T n bd c X = .inr Z → P Z.2.1 Z.2.2 := sorry
theorem lvO_mem {t a c : Nat} {V : Nat → Nat → List It} {q : It} (w : q ∈ lvO S t r j V a c) : q ∈ V a c := sorry
theorem hSet_mem {a c : Nat} {q : It} (w : q ∈ (hSet S N h r j key v l).2.2.1 a c) : q ∈ h.2.2.1 a c ∨ (a = r ∧ c = j ∧ q.2.2.1 = v ∧ q.2.2.2.1 = l ∧ q.2.2.2.2 = 0) := sorry
theorem nwV_mem {m a c : Nat} {V : Nat → Nat → List It} {q : It} (w : q ∈ nwV V m a c) : q ∈ V a c := sorry
theorem hRec_mem {a c : Nat} {q : It} (w : q ∈ (hRec S h r j key).2.2.1 a c) : (q ∈ h.2.2.1 a c ∧ a ≠ h.1) ∨ (a = r ∧ c = j ∧ (q ∈ h.2.2.1 a c ∨ q.2.2.1 = 0 ∧ q.2.2.2.1 = [] ∧ q.2.2.2.2 = h.1)) := sorry
def dK (bd : Nat) (D : Nat → Nat) : List Fr → Prop
  | [] => True
  | F :: K => D F.2.1 = bd + recs (F :: K) ∧ dK bd D K
def dI (S : SF) (h : He) (D : Nat → Nat) : Prop := (∀ r, r < h.1 → 1 ≤ D r ∧ D r ≤ 12) ∧ ∀ r, r < h.1 → ∀ j, j < fCt S (h.2.1 r) → S 12 (h.2.1 r) j = 12 → ∀ q ∈ h.2.2.1 r j, q.2.2.2.2 < h.1 ∧ D q.2.2.2.2 = D r + 1
def hNi (S : SF) (h : He) : Prop := ∀ r j, r < h.1 → j < fCt S (h.2.1 r) → ∀ q ∈ h.2.2.1 r j, lng q.2.2.1 ∧ byt q.2.2.2.1
def xIn (S : SF) (bd d0 : Nat) (h : He) (K : List Fr) : Prop := (hTy S h ∧ hNi S h ∧ ∀ r, r < h.1 → ∀ u ∈ h.2.2.2 r, unOK u) ∧ (∃ D, dI S h D ∧ dK bd D K ∧ D 0 = d0) ∧ (∀ F ∈ K, F.2.1 < h.1) ∧ 0 < h.1
theorem dK.to {D D' : Nat → Nat} {m : Nat} : ∀ {K : List Fr}, dK bd D K → (∀ F ∈ K, F.2.1 < m) → (∀ x, x < m → D' x = D x) → dK bd D' K := sorry
theorem xIn_st {d0 : Nat} (hT : ∀ k, k < n → 0 ≤ T k ∧ T k < 256) (ok : scOK S N) (p : xIn S bd d0 h K) (e : xHq S N T n bd h K h' K') : xIn S bd d0 h' K' := sorry
theorem xRm_I (hT : ∀ k, k < n → 0 ≤ T k ∧ T k < 256) (ok : scOK S N) (e : xRm S N T n = .inr X) : hNm S X.2.1 ∧ ∃ D, dI S X.2.1 D ∧ D 0 = 1 := sorry
theorem dI.dp {D : Nat → Nat} {al : Nat → Bool} (e : dI S h D) (d0 : D 0 = 1) (dn : hDn S h al) (a0 : al 0 = true) (hi : hI S h) (h0 : 0 < h.1) : dpS S h ≤ 12 := sorry
end Xq
end
section
section Ps
variable {μ μ' μ'' : ab_M} {d : Nat} {O : List Int}
def hxL (c : Int) : Int := if c < 10 then 48 + c else 87 + c
def escB (c : Int) : List Int := if c = 34 ∨ c = 92 then [92, c] else if c < 32 ∨ 126 < c then [92, 120, hxL (c / 16), hxL (c % 16)] else [c]
def strL (l : List Int) : List Int := 34 :: (l.flatMap escB ++ [34])
def numL (q v : Int) : List Int := if (q ≠ 6 ∧ q ≠ 8) ∧ v < 0 then 45 :: decL (-v).toNat else decL (v % 18446744073709551616).toNat
def cnI (f : Nat → Int) (v : Int) : Nat → Nat → Int
  | 0, _ => -1
  | m + 1, i => if f i = v then (i : Int) else cnI f v m (i + 1)
def tfL (v : Int) : List Int := if v = 0 then [102, 97, 108, 115, 101] else [116, 114, 117, 101]
def sclL (S : SF) (N : NF) (q : Int) (t : Nat) (v : Int) (l : List Int) : List Int := if q = 9 ∨ q = 10 then strL l else if q = 0 then tfL v else if q = 11 then (if cnI (S 25 t) v (S 3 t 0).toNat 0 < 0 then numL q v else N 2 t (cnI (S 25 t) v (S 3 t 0).toNat 0).toNat) else numL q v
theorem cO.f {run : ab_R} {O1 : List Int} {μ0 : ab_M} (a : cO run μ 1310 1311 4000 O1) (f : frU 1310 1311 μ0 μ) : cO run μ0 1310 1311 4000 O1 := sorry
theorem c_pn25 {x : Int} {L : List Int} (ob : wc_ob x.toNat 20 = true) (len : ∀ μ, pr_len [(2, x)] μ = some ((0, (L.length : Int)), μ)) (chr : ∀ (μ : ab_M) (k : Nat) (h : k < L.length), pr_chr [(2, x), (0, (k : Int))] μ = some ((0, L[k]), μ)) (hb : ∀ y ∈ L, 0 ≤ y ∧ y < 256) (l100 : L.length ≤ 100) : ∀ (m k : Nat) (μ : ab_M) (O : List Int), k + m = L.length → cOu μ 1310 1311 4000 O → cO (ab_run wc (d + 3) 474 25 [(2, 1), (3, 0), (3, 0), (3, 0), (2, x), (0, k), (3, 0), (3, 0)] [] μ) μ 1310 1311 4000 (O ++ L.drop k) := sorry
theorem c_pnW {w : Nat} (hw : w < 26) (hl : (pr_txt w).length ≤ 100) (c : cOu μ 1310 1311 4000 O) : cO (ab_run wc (d + 3) 474 25 [(2, 1), (3, 0), (3, 0), (3, 0), (2, (wdA w)), (0, 0), (3, 0), (3, 0)] [] μ) μ 1310 1311 4000 (O ++ pr_txt w) := sorry
theorem c_printNumber {q v : Int} (q1 : 0 ≤ q ∧ q ≤ 12) (v1 : lng v) (c : cOu μ 1310 1311 4000 O) : cO (ab_run wc (d + 3) 474 0 [(2, 1), (2, (200000 + q)), (1, v), (3, 0), (3, 0), (3, 0), (3, 0), (3, 0)] [] μ) μ 1310 1311 4000 (O ++ (if q = 0 then tfL v else numL q v)) := sorry
theorem c_hexD {x : Int} (h : 0 ≤ x) (h2 : x < 16) : (ab_run wc (d + 1) 406 0 [(0, x)] [] μ) = some ((0, hxL x), μ) := sorry
theorem hxL_rg {x : Int} (h : 0 ≤ x) (h2 : x < 16) : 0 ≤ hxL x ∧ hxL x < 256 := sorry
theorem c_ps9 {a o la : Nat} (ha : wc_ar a = (4, la)) (na : a ≠ 1 ∧ a ≠ 1310 ∧ a ≠ 1311) (la1 : la ≤ 20000) {nn : Nat} : ∀ (l : List Int) (k : Nat) (μ : ab_M) (O : List Int), k + l.length = o + nn → k + l.length ≤ la → cBy μ a k l → cOu μ 1310 1311 4000 O → cO (ab_run wc (d + 3) 476 9 [(2, 1), (2, a), (0, o), (0, nn), (0, k), (3, 0)] [] μ) μ 1310 1311 4000 (O ++ (l.flatMap escB ++ [34])) := sorry
theorem c_printString {a o la : Nat} {l : List Int} (ha : wc_ar a = (4, la)) (na : a ≠ 1 ∧ a ≠ 1310 ∧ a ≠ 1311) (la1 : la ≤ 20000) (hl : o + l.length ≤ la) (hb : cBy μ a o l) (c : cOu μ 1310 1311 4000 O) : cO (ab_run wc (d + 3) 476 0 [(2, 1), (2, a), (0, o), (0, (l.length)), (3, 0), (3, 0)] [] μ) μ 1310 1311 4000 (O ++ strL l) := sorry
end Ps
end
section
section Pv
variable {μ μ' μ'' μ0 : ab_M} {d : Nat} {S : SF} {N : NF} {A cr ci cb kS b : Nat} {O : List Int} {X : Rsv} {h : He} {ni nu us : Nat}
theorem frU.nm {a i : Nat} (f : frU 1310 1311 μ μ') (h1 : a ≠ 1) (h2 : a ≠ 1310) (h3 : a ≠ 1311) : μ' a i = μ a i := sorry
theorem inM_p {a : Nat} (hm : isM A cr ci cb) (ha : inM A a) : a ≠ 1310 ∧ a ≠ 1311 ∧ a ≠ 1312 ∧ a ≠ 1313 := sorry
theorem cSc.u (c : cSc μ b S N) (ok : scOK S N) (hb : isS b) (f : frU 1310 1311 μ μ') : cSc μ' b S N := sorry
theorem cMS.u (c : cMS μ A kS b S N) (hm : isM A cr ci cb) (f : frU 1310 1311 μ μ') : cMS μ' A kS b S N := sorry
theorem CM.u {nr : Nat} {ty : Nat → Nat} {V : Nat → Nat → List It} {U : Nat → List Un} (c : CM X S μ A cr ci cb nr ty V U ni nu us) (hm : isM A cr ci cb) (f : frU 1310 1311 μ μ') : CM X S μ' A cr ci cb nr ty V U ni nu us := sorry
theorem c_cst {t : Nat} {v : Int} (hb : isS b) (ok : scOK S N) (sc : cSc μ b S N) (t1 : (t : Int) < S 0 0 0) (t2 : S 2 t 0 = 0) : ∀ (m i : Nat), i + m = (S 3 t 0).toNat → (ab_run wc (d + 1) 689 2 [(2, (tyA b t)), (1, v), (3, 0), (0, i)] [] μ) = some ((0, cnI (S 25 t) v m i), μ) := sorry
theorem cnI_rg {f : Nat → Int} {v : Int} : ∀ (m i : Nat), cnI f v m i = -1 ∨ ∃ j : Nat, cnI f v m i = j ∧ i ≤ j ∧ j < i + m := sorry
theorem c_printValueS {q v x6 x7 x8 t : Int} {o : Nat} {l : List Int} (hm : isM A cr ci cb) (ms : cMS μ A kS b S N) (q1 : 0 ≤ q ∧ q ≤ 11) (v1 : ¬ (q = 9 ∨ q = 10) → lng v) (t1 : q = 11 → ∃ tt : Nat, t = tt ∧ (tt : Int) < S 0 0 0 ∧ S 2 tt 0 = 0) (tx : q = 9 ∨ q = 10 → x6 = o ∧ x7 = l.length ∧ o + l.length ≤ cb ∧ cBy μ (msA A 32) o l) (c : cOu μ 1310 1311 4000 O) :
    cO (ab_run wc (d + 4) 477 0 [(2, 1), (2, A), (2, (200000 + q)), (0, t), (1, v), (3, 0), (0, x6), (0, x7), (0, x8), (3, 0), (3, 0)] [] μ) μ 1310 1311 4000 (O ++ sclL S N q t.toNat v l) := sorry
end Pv
end
section
section Pr
variable {μ μ' μ'' μ0 : ab_M} {d D : Nat} {S : SF} {N : NF} {A cr ci cb kS b : Nat} {O : List Int} {X : Rsv} {h : He} {ni nu us r j : Nat} {P : Nat → List Int}
def prI (S : SF) (N : NF) (t j : Nat) (P : Nat → List Int) (q : It) : List Int := (if S 11 t j = 3 then sclL S N (S 14 t j) 0 q.1 q.2.1 ++ [58] else []) ++ (if S 12 t j = 12 then P q.2.2.2.2 else sclL S N (S 12 t j) (S 13 t j).toNat q.2.2.1 q.2.2.2.1)
def prLs (S : SF) (N : NF) (t j : Nat) (P : Nat → List Int) : Bool → List It → List Int
  | _, [] => []
  | fst, q :: L => (if fst = true then [] else [44]) ++ (prI S N t j P q ++ prLs S N t j P false L)
def prJ (S : SF) (N : NF) (t j : Nat) (P : Nat → List Int) (l : List It) : List Int := N 1 t j ++ (58 :: (if S 11 t j < 2 then prLs S N t j P true l else (if S 11 t j = 3 then 60 else 91) :: (prLs S N t j P true l ++ [if S 11 t j = 3 then 62 else 93])))
def prFs (S : SF) (N : NF) (t : Nat) (P : Nat → List Int) (v : Nat → List It) : Nat → Nat → Bool → List Int
  | 0, _, _ => []
  | m + 1, k, more => if v (S 20 t k).toNat = [] then prFs S N t P v m (k + 1) more else (if more = true then [44] else []) ++ (prJ S N t (S 20 t k).toNat P (v (S 20 t k).toNat) ++ prFs S N t P v m (k + 1) true)
def prR (S : SF) (N : NF) (h : He) : Nat → Nat → List Int
  | 0, _ => []
  | f + 1, r => 123 :: (prFs S N (h.2.1 r) (prR S N h f) (h.2.2.1 r) (fCt S (h.2.1 r)) 0 false ++ [125])
def bnOK (S : SF) : Prop := ∀ k : Nat, (k : Int) < S 0 0 0 → S 2 k 0 = 1 → (∀ i, i < fCt S k → 0 ≤ S 20 k i ∧ S 20 k i < fCt S k) ∧ ∀ i i', i < i' → i' < fCt S k → S 10 k (S 20 k i).toNat < S 10 k (S 20 k i').toNat
def cG (run : ab_R) (μ : ab_M) (k : ab_M → ab_R) (O : List Int) : Prop := ∃ μ', run = k μ' ∧ cOu μ' 1310 1311 4000 O ∧ frU 1310 1311 μ μ'
theorem cO.go {f k : ab_M → ab_R} {run : ab_R} {O1 O2 : List Int} (a : cO run μ 1310 1311 4000 O1) (g : ∀ μ', cOu μ' 1310 1311 4000 O1 → frU 1310 1311 μ μ' → cG (f μ') μ' k O2) : cG (ab_cal run 3 (fun r1 μ1 => some ((4, r1), μ1)) (fun _ μ1 => f μ1)) μ k O2 := sorry
theorem cG.to {k : ab_M → ab_R} {run run' : ab_R} {O1 O2 : List Int} (a : cG run μ k O1) (e : run' = run) (h : O1 = O2) : cG run' μ k O2 := sorry
def PP (A : Nat) (μ0 : ab_M) (D : Nat) (P : Nat → List Int) (c : Nat) : Prop := ∀ (μ : ab_M) (O : List Int), frU 1310 1311 μ0 μ → cOu μ 1310 1311 4000 O → cO (ab_run wc D 475 0 [(2, 1), (2, A), (0, c), (3, 0), (3, 0), (3, 0), (3, 0), (3, 0), (3, 0), (3, 0)] [] μ) μ 1310 1311 4000 (O ++ P c)
theorem c_pval {q : It} {x6 x7 x8 v : Int} {o : Nat} (hm : isM A cr ci cb) (ms : cMS μ A kS b S N) (fo : fdOK S N (h.2.1 r) j) (f0 : frU 1310 1311 μ0 μ) (v1 : lng q.2.2.1) (vn : fSo (S 12 (h.2.1 r) j) = 0 → v = q.2.2.1) (ic : itC S (h.2.1 r) j q) (tx : S 12 (h.2.1 r) j = 9 ∨ S 12 (h.2.1 r) j = 10 → x6 = o ∧ x7 = q.2.2.2.1.length ∧ o + q.2.2.2.1.length ≤ cb ∧ cBy μ (msA A 32) o q.2.2.2.1) (x8r : S 12 (h.2.1 r) j = 12 → x8 = q.2.2.2.2 ∧ PP A μ0 (D + 3) P q.2.2.2.2) (c : cOu μ 1310 1311 4000 O) :
    cO (ab_run wc (D + 4) 477 0 [(2, 1), (2, A), (2, (200000 + S 12 (h.2.1 r) j)), (0, (S 13 (h.2.1 r) j)), (1, v), (3, 0), (0, x6), (0, x7), (0, x8), (3, 0), (3, 0)] [] μ) μ 1310 1311 4000 (O ++ (if S 12 (h.2.1 r) j = 12 then P q.2.2.2.2 else sclL S N (S 12 (h.2.1 r) j) (S 13 (h.2.1 r) j).toNat q.2.2.1 q.2.2.2.1)) := sorry
theorem c_pr200 {ch : List Nat} {L0 : List It} {k : Nat} (hm : isM A cr ci cb) (ms0 : cMS μ0 A kS b S N) (cm0 : CM X S μ0 A cr ci cb h.1 h.2.1 h.2.2.1 h.2.2.2 ni nu us) (hr : r < h.1) (hj : j < fCt S (h.2.1 r)) (my : 2 ≤ S 11 (h.2.1 r) j) (k1 : k < 100) (nd : ch.Nodup) (sl : bsF S h.2.1 r + j < 24 * cr) (u2 : us ≤ cb) (r14 : μ0 (msA A 14) (bsF S h.2.1 r + j) = nx ch 0)
    (Fq : ∀ (k i : Nat) (t : It), ch[k]? = some i → L0[k]? = some t → cIt μ0 A us (fSo (S 12 (h.2.1 r) j)) (fKs (S 11 (h.2.1 r) j) (S 14 (h.2.1 r) j)) i t) (F22 : ∀ (k i : Nat), ch[k]? = some i → μ0 (msA A 22) i = nx ch (k + 1)) (Fc : ∀ i ∈ ch, i < ci) (Fi : ∀ t ∈ L0, itC S (h.2.1 r) j t ∧ (lng t.1 ∧ lng t.2.2.1) ∧ t.2.2.2.2 ≠ hole ∧ (S 12 (h.2.1 r) j = 12 → PP A μ0 (D + 3) P t.2.2.2.2)) :
    ∀ (L : List It) (p : Nat) (μ : ab_M) (O : List Int), frU 1310 1311 μ0 μ → (∀ q : Nat, L0[p + q]? = L[q]?) → p + L.length = ch.length → cOu μ 1310 1311 4000 O →
    cG (ab_run wc (D + 5) 475 200 [(2, 1), (2, A), (0, r), (2, (tyA b (h.2.1 r))), (0, 1), (0, k), (3, 0), (2, (fdA b (h.2.1 r) j)), (0, (((bsF S h.2.1 r + j : Nat) : Int))), (0, (nx ch p))] [] μ) μ (fun μ' => (ab_run wc (D + 5) 475 19 [(2, 1), (2, A), (0, r), (2, (tyA b (h.2.1 r))), (0, 1), (0, (((k + 1 : Nat) : Int))), (3, 0), (3, 0), (3, 0), (3, 0)] [] μ')) (O ++ (prLs S N (h.2.1 r) j P (decide (p = 0)) L ++ [if S 11 (h.2.1 r) j = 3 then 62 else 93])) := sorry
end Pr
end
section
section Pr
variable {μ μ' μ'' μ0 : ab_M} {d D : Nat} {S : SF} {N : NF} {A cr ci cb kS b : Nat} {O : List Int} {X : Rsv} {h : He} {ni nu us r j : Nat} {P : Nat → List Int}
theorem c_pr19 (hm : isM A cr ci cb) (ms0 : cMS μ0 A kS b S N) (cm0 : CM X S μ0 A cr ci cb h.1 h.2.1 h.2.2.1 h.2.2.2 ni nu us) (bn : bnOK S) (hr : r < h.1) (cn : hCn S h) (hi : hI S h) (hn : hNm S h) (h1000 : h.1 < hole) (hc : ∀ D', D ≤ D' → ∀ j, j < fCt S (h.2.1 r) → S 12 (h.2.1 r) j = 12 → ∀ q ∈ h.2.2.1 r j, q.2.2.2.2 < h.1 ∧ PP A μ0 (D' + 3) P q.2.2.2.2) :
    ∀ (m k : Nat) (more : Bool) (μ : ab_M) (O : List Int), k + m = fCt S (h.2.1 r) → frU 1310 1311 μ0 μ → cOu μ 1310 1311 4000 O → cO (ab_run wc (D + 5) 475 19 [(2, 1), (2, A), (0, r), (2, (tyA b (h.2.1 r))), (0, ((if more = true then 1 else 0))), (0, k), (3, 0), (3, 0), (3, 0), (3, 0)] [] μ) μ 1310 1311 4000 (O ++ (prFs S N (h.2.1 r) P (h.2.2.1 r) m k more ++ [125])) := sorry
theorem c_PP {al : Nat → Bool} (hm : isM A cr ci cb) (bn : bnOK S) (cn : hCn S h) (hi : hI S h) (hn : hNm S h) (h1000 : h.1 < hole) (dn : hDn S h al) : ∀ (f D r : Nat) (μ0 : ab_M), 2 * f + 6 ≤ D → r < h.1 → al r = true → h.1 ≤ r + f → cMS μ0 A kS b S N → CM X S μ0 A cr ci cb h.1 h.2.1 h.2.2.1 h.2.2.2 ni nu us → PP A μ0 D (prR S N h f) r := sorry
end Pr
end
section
section Pp
variable {S : SF} {N : NF} {h g : He} {t n : Nat} {P P' : Nat → List Int}
def grp (v : Nat → List It) (js : List Nat) : List We := js.flatMap fun j => (v j).map (Prod.mk j)
theorem wV_grp {v : Nat → List It} {j : Nat} : ∀ {js : List Nat}, js.Nodup → wV (grp v js) j = if j ∈ js then v j else [] := sorry
theorem W_grp {key : Nat → Int} : ∀ (js : List Nat) (W : List We), js.Pairwise (fun a b => key a < key b) → W.Pairwise (fun a b => key a.1 ≤ key b.1) → (∀ x ∈ W, x.1 ∈ js) → W = grp (wV W) js := sorry
def byN (S : SF) (t : Nat) : Nat → Nat → List Nat
  | 0, _ => []
  | m + 1, k => (S 20 t k).toNat :: byN S t m (k + 1)
theorem byN_mem {j : Nat} : ∀ {m k : Nat}, j ∈ byN S t m k → ∃ i, k ≤ i ∧ i < k + m ∧ (S 20 t i).toNat = j := sorry
theorem byN_so (bn : ∀ i i', i < i' → i' < n → S 10 t (S 20 t i).toNat < S 10 t (S 20 t i').toNat) : ∀ (m k : Nat), k + m ≤ n → (byN S t m k).Pairwise (fun a b => S 10 t a < S 10 t b) := sorry
theorem byN_all (rg : ∀ i, i < n → 0 ≤ S 20 t i ∧ S 20 t i < n) (bn : ∀ i i', i < i' → i' < n → S 10 t (S 20 t i).toNat < S 10 t (S 20 t i').toNat) {j : Nat} (hj : j < n) : j ∈ byN S t n 0 := sorry
def clJ (S : SF) (t j : Nat) : List Int := if S 11 t j = 2 then [93] else if S 11 t j = 3 then [62] else []
def opJ (S : SF) (t j : Nat) : List Int := if S 11 t j = 2 then [91] else if S 11 t j = 3 then [60] else []
def clO (S : SF) (t : Nat) : Option Nat → List Int
  | none => []
  | some j => clJ S t j
def prW (S : SF) (N : NF) (t : Nat) (P : Nat → List Int) : Option Nat → List We → List Int
  | bf, [] => clO S t bf
  | bf, x :: L => (if bf = some x.1 then [44] else clO S t bf ++ ((if bf = none then [] else [44]) ++ (N 1 t x.1 ++ (58 :: opJ S t x.1)))) ++ (prI S N t x.1 P x.2 ++ prW S N t P (some x.1) L)
theorem prW_more {j : Nat} {R : List We} : ∀ L : List It, prW S N t P (some j) (L.map (Prod.mk j) ++ R) = prLs S N t j P false L ++ prW S N t P (some j) R := sorry
theorem prW_grp {v : Nat → List It} (l1 : ∀ j, j < n → S 11 t j < 2 → (v j).length ≤ 1) (m3 : ∀ j, j < n → S 11 t j ≤ 3) : ∀ (m k : Nat) (bf : Option Nat), (∀ j ∈ byN S t m k, j < n) → (∀ j, bf = some j → j ∉ byN S t m k) → (byN S t m k).Nodup → prW S N t P bf (grp v (byN S t m k)) = clO S t bf ++ prFs S N t P v m k (bf.isSome) := sorry
theorem itsE.prl {R : Nat → Nat → Prop} {j : Nat} (hP : S 12 t j = 12 → ∀ x y, R x y → P x = P' y) : ∀ {L L' : List It} {fst : Bool}, itsE R (decide (S 12 t j = 12)) L L' → prLs S N t j P fst L = prLs S N t j P' fst L' := sorry
theorem itsE.nil {R : Nat → Nat → Prop} {rc : Bool} {L L' : List It} (e : itsE R rc L L') : L = [] ↔ L' = [] := sorry
theorem eqT.pr (rg : ∀ r, r < h.1 → ∀ i, i < fCt S (h.2.1 r) → (S 20 (h.2.1 r) i).toNat < fCt S (h.2.1 r)) : ∀ {f r r' : Nat}, eqT S h g f r r' → prR S N h f r = prR S N g f r' := sorry
end Pp
end
section
section Pt
variable {μ μ' μ'' : ab_M} {d : Nat} {O : List Int} {S : SF} {N : NF}
def tE (run : ab_R) (μ : ab_M) (O : List Int) : Prop := R3 run (fun μ' => tOu μ' O ∧ frM2 μ μ')
theorem tE.seq {f : ab_M → ab_R} {run : ab_R} {O1 O2 : List Int} (a : tE run μ O1) (b : ∀ μ', tOu μ' O1 → frM2 μ μ' → tE (f μ') μ' O2) : tE (ab_cal run 3 (fun r1 μ1 => some ((4, r1), μ1)) (fun _ μ1 => f μ1)) μ O2 := sorry
theorem tE.to {run run' : ab_R} {O1 O2 : List Int} (a : tE run μ O1) (e : run' = run) (h : O1 = O2) : tE run' μ O2 := sorry
theorem tE.end {run : ab_R} {O1 : List Int} (a : tE run μ O1) : tE (ab_cal run 3 (fun r1 μ1 => some ((4, r1), μ1)) (fun _ μ1 => some ((3, 0), μ1))) μ O1 := sorry
theorem te {x : Int} (c : tOu μ O) (ln : O.length < 2147483647) (h : 0 ≤ x ∧ x < 256) : tE (ab_run wt (d + 1) 43 0 [(2, 7756), (0, x)] [] μ) μ (O ++ [x]) := sorry
theorem tw_pn3 {hi lo : Int} {l : List Int} (nm : tNm hi lo l) (ok : nmOK l) : ∀ (m i : Nat) (μ : ab_M) (O : List Int), i + m = 16 → tOu μ O → O.length + m < 2147483000 → tE (ab_run wt (d + 2) 230 3 [(2, 7756), (1, hi), (3, 0), (1, lo), (3, 0), (0, i), (3, 0)] [] μ) μ (O ++ l.drop i) := sorry
theorem tw_putName {hi lo : Int} {l : List Int} (nm : tNm hi lo l) (ok : nmOK l) (c : tOu μ O) (ln : O.length < 2147482000) : tE (ab_run wt (d + 2) 230 0 [(2, 7756), (1, hi), (3, 0), (1, lo), (3, 0), (3, 0), (3, 0)] [] μ) μ (O ++ l) := sorry
theorem tw_ps9 {m fi n : Nat} (hm : m < 16) (hf : fi + n ≤ 9000) : ∀ (l : List Int) (k : Nat) (μ : ab_M) (O : List Int), k + l.length = n → tBy μ 7879 (9000 * m + fi + k) l → byt l → tOu μ O → O.length + 4 * l.length < 2147482000 → tE (ab_run wt (d + 2) 239 9 [(2, 7756), (0, m), (0, fi), (0, n), (0, k), (3, 0)] [] μ) μ (O ++ (l.flatMap escB ++ [34])) := sorry
theorem tw_putString {m fi : Nat} {l : List Int} (hm : m < 16) (hf : fi + l.length ≤ 9000) (hb : tBy μ 7879 (9000 * m + fi) l) (by' : byt l) (c : tOu μ O) (ln : O.length + 4 * l.length < 2147481000) : tE (ab_run wt (d + 2) 239 0 [(2, 7756), (0, m), (0, fi), (0, (l.length)), (3, 0), (3, 0)] [] μ) μ (O ++ strL l) := sorry
theorem decL_10 {u : Nat} (h : 10 ≤ u) (h2 : u < 18446744073709551616) : decL u = decL (u / 10) ++ [((48 + u % 10 : Nat) : Int)] := sorry
theorem tw_putNumber {v : Int} (v1 : lng v) (c : tOu μ O) (ln : O.length < 2147470000) : tE (ab_run wt (d + 3) 231 0 [(2, 7756), (1, v), (3, 0)] [] μ) μ (O ++ (if v < 0 then 45 :: decL (-v).toNat else decL v.toNat)) := sorry
theorem tw_pwS {w x y bb : Int} (hx : 0 ≤ x) (e : and64 (shr64 w x) 255 = bb) (hb : 0 < bb ∧ bb < 256) (hy : w32 (x + -8) = y) {O2 : List Int} (c : tOu μ O) (ln : O.length < 2147483000) (k : ∀ μ', tOu μ' (O ++ [bb]) → tE (ab_run wt (d + 2) 243 18 [(2, 7756), (3, 0), (1, w), (3, 0), (0, y), (3, 0)] [] μ') μ' O2) : tE (ab_run wt (d + 2) 243 18 [(2, 7756), (3, 0), (1, w), (3, 0), (0, x), (3, 0)] [] μ) μ O2 := sorry
theorem tw_pwE {w x : Int} (hx : x < 0) (c : tOu μ O) : tE (ab_run wt (d + 2) 243 18 [(2, 7756), (3, 0), (1, w), (3, 0), (0, x), (3, 0)] [] μ) μ O := sorry
theorem tw_putWord {v : Int} (hv : v = 0 ∨ v = 1) (c : tOu μ O) (ln : O.length < 2147480000) : tE (ab_run wt (d + 2) 243 0 [(2, 7756), (0, v), (3, 0), (3, 0), (3, 0), (3, 0)] [] μ) μ (O ++ tfL v) := sorry
theorem tw_sc51 {q v : Int} {s t : Nat} (hs : s < 5) (ts : tSc μ s S N) (ok : scOK S N) (t1 : (t : Int) < S 0 0 0) (t2 : S 2 t 0 = 0) (hq : q = 11) (v1 : lng v) (c : tOu μ O) (ln : O.length < 2147460000) : ∀ (m i : Nat), i + m = (S 3 t 0).toNat → tE (ab_run wt (d + 4) 236 51 [(2, 7756), (3, 0), (0, q), (0, (((30 * s + t : Nat) : Int))), (1, v), (3, 0), (3, 0), (3, 0), (0, (((16 * (30 * s + t) + i : Nat) : Int))), (3, 0)] [] μ) μ (O ++ (if cnI (S 25 t) v m i < 0 then numL q v else N 2 t (cnI (S 25 t) v m i).toNat)) := sorry
theorem tw_putScalar {q v tt x6 x7 : Int} {m s t fi : Nat} {l : List Int} (hm : m < 16) (hs : s < 5) (ts : tSc μ s S N) (ok : scOK S N) (q1 : 0 ≤ q ∧ q ≤ 11) (v1 : ¬ (q = 9 ∨ q = 10) → lng v) (t1 : q = 11 → tt = ((30 * s + t : Nat) : Int) ∧ (t : Int) < S 0 0 0 ∧ S 2 t 0 = 0) (tx : q = 9 ∨ q = 10 → x6 = fi ∧ x7 = l.length ∧ fi + l.length ≤ 9000 ∧ tBy μ 7879 (9000 * m + fi) l ∧ byt l) (c : tOu μ O) (ln : O.length + 4 * l.length < 2147450000) :
    tE (ab_run wt (d + 5) 236 0 [(2, 7756), (0, m), (0, q), (0, tt), (1, v), (3, 0), (0, x6), (0, x7), (3, 0), (3, 0)] [] μ) μ (O ++ sclL S N q t v l) := sorry
end Pt
end
section
section Pm
variable {μ μ' μ'' μ0 : ab_M} {d : Nat} {O : List Int} {S : SF} {N : NF} {m s t j : Nat} {P : Nat → List Int}
def tGo (run : ab_R) (μ : ab_M) (k : ab_M → ab_R) (O : List Int) : Prop := ∃ μ', run = k μ' ∧ tOu μ' O ∧ frM2 μ μ'
theorem tE.go {f k : ab_M → ab_R} {run : ab_R} {O1 O2 : List Int} (a : tE run μ O1) (g : ∀ μ', tOu μ' O1 → frM2 μ μ' → tGo (f μ') μ' k O2) : tGo (ab_cal run 3 (fun r1 μ1 => some ((4, r1), μ1)) (fun _ μ1 => f μ1)) μ k O2 := sorry
theorem tGo.to {k : ab_M → ab_R} {run run' : ab_R} {O1 O2 : List Int} (a : tGo run μ k O1) (e : run' = run) (h : O1 = O2) : tGo run' μ k O2 := sorry
theorem TS.m2 (c : TS μ s S N) (f : frM2 μ μ') : TS μ' s S N := sorry
def bfO (S : SF) (s t : Nat) (μ : ab_M) (x : Int) : Option Nat → Prop
  | none => x = -2
  | some j => ∃ e : Nat, x = e ∧ e < 73600 ∧ j < fCt S t ∧ μ 7869 e = fX s t j
theorem tw_pm124 {bf : Option Nat} {x4 x3 : Int} {s0 : Int} (ts : TS μ s S N) (t1 : (t : Int) < S 0 0 0) (t2 : S 2 t 0 = 1) (hb : bfO S s t μ x4 bf) (c : tOu μ O) (ln : O.length < 2147430000) : tGo (ab_run wt (d + 7) 219 124 [(2, 7756), (0, m), (3, 0), (0, x3), (0, x4), (3, 0), (3, 0)] [(0, s0)] μ) μ (fun μ' => (ab_run wt (d + 7) 219 174 [(2, 7756), (0, m), (3, 0), (0, x3), (0, x4), (0, s0), (3, 0)] [] μ')) (O ++ (if s0 = 0 then clO S t bf else [])) := sorry
theorem tw_pm216 {i : Nat} {x5 : Int} {q : It} {pM : Nat} {ε : Nat → Nat} (ts : TS μ s S N) (m16 : m < 16) (t1 : (t : Int) < S 0 0 0) (t2 : S 2 t 0 = 1) (hj : j < fCt S t) (hi : i < 73600) (en : tEn S μ m s pM ε t i (j, q)) (pm : pM ≤ 9000) (kl : lng q.1) (kb : byt q.2.1) (c : tOu μ O) (ln : O.length + 4 * q.2.1.length < 2147420000) :
    tGo (ab_run wt (d + 7) 219 216 [(2, 7756), (0, m), (3, 0), (0, i), (3, 0), (0, x5), (0, (fX s t j))] [] μ) μ (fun μ' => (ab_run wt (d + 7) 219 328 [(2, 7756), (0, m), (3, 0), (0, i), (3, 0), (3, 0), (0, (fX s t j))] [] μ')) (O ++ ((if x5 = 0 then N 1 t j ++ (58 :: opJ S t j) else []) ++ (if S 11 t j = 3 then sclL S N (S 14 t j) 0 q.1 q.2.1 ++ [58] else []))) := sorry
end Pm
end
section
section Pm
variable {μ μ' μ'' μ0 : ab_M} {d : Nat} {O : List Int} {S : SF} {N : NF} {m s t j r f uM pM : Nat} {h : He} {ε : Nat → Nat} {W : Nat → List We} {c uc : Nat → List Nat} {own : Nat → Nat}
def frN (μ μ' : ab_M) : Prop := ∀ a i, a ≠ 7887 → a ≠ 7888 → a ≠ 7889 → (a ≠ 7756 ∨ i ≠ 172 ∧ i ≠ 175) → μ' a i = μ a i
theorem frN.trans (f : frN μ μ') (g : frN μ' μ'') : frN μ μ'' := sorry
theorem frM2.n (f : frM2 μ μ') : frN μ μ' := sorry
theorem TS.n (c : TS μ s S N) (f : frN μ μ') : TS μ' s S N := sorry
theorem tEn.n {i : Nat} {x : We} (e : tEn S μ m s pM ε t i x) (f : frN μ μ') : tEn S μ' m s pM ε t i x := sorry
def dpL (S : SF) (h : He) : Nat → Nat → Nat → Prop
  | 0, _, _ => True
  | f + 1, r, dp => dp ≤ 12 ∧ ∀ j, j < fCt S (h.2.1 r) → S 12 (h.2.1 r) j = 12 → ∀ q ∈ h.2.2.1 r j, dpL S h f q.2.2.2.2 (dp + 1)
def TPp (d m : Nat) (μ0 : ab_M) (ε : Nat → Nat) (out : List Int) (r G : Nat) : Prop := ∀ (μ : ab_M) (O : List Int), frN μ0 μ → tOu μ O → μ 7756 175 = ((G + 1 : Nat) : Int) → μ 7888 G = μ0 7871 (ε r) → μ 7889 G = -2 → O.length + out.length < 2147300000 → ∃ μ', (ab_run wt (d + 7) 219 62 [(2, 7756), (0, m), (3, 0), (3, 0), (3, 0), (3, 0), (3, 0)] [] μ) = (ab_run wt (d + 7) 219 62 [(2, 7756), (0, m), (3, 0), (3, 0), (3, 0), (3, 0), (3, 0)] [] μ') ∧ tOu μ' (O ++ out) ∧ μ' 7756 175 = G ∧ frN μ0 μ' ∧ ∀ i, i < G → μ' 7888 i = μ 7888 i ∧ μ' 7889 i = μ 7889 i
theorem tw_prl {G : Nat} (H : tH S μ0 m s h.1 (fun _ => true) h.2.1 h.2.2.1 h.2.2.2 ε W c uc own uM pM) (ts : TS μ0 s S N) (hr : r < h.1) (g12 : G + 1 ≤ 12) (hi : hI S h) (hn : hNm S h) (ic : hCn S h) {P : Nat → List Int} (hc : ∀ x ∈ W r, S 12 (h.2.1 r) x.1 = 12 → ∃ w, P x.2.2.2.2.2 = 123 :: w ∧ TPp d m μ0 ε w x.2.2.2.2.2 (G + 1)) :
    ∀ (L : List We) (cL : List Nat) (x : Int) (bf : Option Nat) (μ : ab_M) (O : List Int), tSg μ0 x cL (-2) → tEs S μ0 m s pM ε (h.2.1 r) cL L → (∀ i ∈ cL, i < 73600) → (∀ y ∈ L, y ∈ W r) → frN μ0 μ → tOu μ O → μ 7756 175 = ((G + 1 : Nat) : Int) → μ 7888 G = x → bfO S s (h.2.1 r) μ0 (μ 7889 G) bf → O.length + (prW S N (h.2.1 r) P bf L ++ [125]).length < 2147300000 →
    ∃ μ', (ab_run wt (d + 7) 219 62 [(2, 7756), (0, m), (3, 0), (3, 0), (3, 0), (3, 0), (3, 0)] [] μ) = (ab_run wt (d + 7) 219 62 [(2, 7756), (0, m), (3, 0), (3, 0), (3, 0), (3, 0), (3, 0)] [] μ') ∧ tOu μ' (O ++ (prW S N (h.2.1 r) P bf L ++ [125])) ∧ μ' 7756 175 = G ∧ frN μ0 μ' ∧ ∀ i, i < G → μ' 7888 i = μ 7888 i ∧ μ' 7889 i = μ 7889 i := sorry
end Pm
end
section
section Pl
variable {S : SF} {N : NF} {h : He} {t j n : Nat} {P : Nat → List Int} {F : Nat → Int}
theorem sclL_len {q v : Int} {l : List Int} (ok : scOK S N) (tq : q = 11 → (t : Int) < S 0 0 0 ∧ S 2 t 0 = 0) : (sclL S N q t v l).length ≤ 4 * l.length + 40 := sorry
theorem prI_len {q : It} (ok : scOK S N) (fo : fdOK S N t j) (hP : S 12 t j = 12 → ((P q.2.2.2.2).length : Int) ≤ 2 + F q.2.2.2.2) : ((prI S N t j P q).length : Int) ≤ 83 + (4 * q.2.1.length + 4 * q.2.2.2.1.length) + (if S 12 t j = 12 then F q.2.2.2.2 else 0) := sorry
theorem prLs_len (ok : scOK S N) (fo : fdOK S N t j) : ∀ (L : List It) (fst : Bool), (S 12 t j = 12 → ∀ q ∈ L, ((P q.2.2.2.2).length : Int) ≤ 2 + F q.2.2.2.2) → ((prLs S N t j P fst L).length : Int) ≤ 84 * L.length + 4 * byV L + (if S 12 t j = 12 then sumI F L else 0) := sorry
theorem prJ_len {l : List It} (ok : scOK S N) (fo : fdOK S N t j) (hP : S 12 t j = 12 → ∀ q ∈ l, ((P q.2.2.2.2).length : Int) ≤ 2 + F q.2.2.2.2) : ((prJ S N t j P l).length : Int) ≤ 19 + 84 * l.length + 4 * byV l + (if S 12 t j = 12 then sumI F l else 0) := sorry
def sumB (S : SF) (t : Nat) (G : Nat → Int) : Nat → Nat → Int
  | 0, _ => 0
  | m + 1, k => G (S 20 t k).toNat + sumB S t G m (k + 1)
theorem prFs_len {v : Nat → List It} (ok : scOK S N) (fo : ∀ j, j < n → fdOK S N t j) (hP : ∀ j, j < n → S 12 t j = 12 → ∀ q ∈ v j, ((P q.2.2.2.2).length : Int) ≤ 2 + F q.2.2.2.2) (byp : ∀ x, 0 ≤ F x) : ∀ (m k : Nat) (mo : Bool), (∀ i, k ≤ i → i < k + m → (S 20 t i).toNat < n) → ((prFs S N t P v m k mo).length : Int) ≤ sumB S t (fun j => 104 * wgV (S 11 t j) (v j) + 4 * byV (v j) + (if S 12 t j = 12 then sumI F (v j) else 0)) m k := sorry
theorem sumB_eq {G : Nat → Int} (rg : ∀ i, i < n → 0 ≤ S 20 t i ∧ S 20 t i < n) (bn : ∀ i i', i < i' → i' < n → S 10 t (S 20 t i).toNat < S 10 t (S 20 t i').toNat) : sumB S t G n 0 = sumN G n := sorry
theorem sumN_mul {G H : Nat → Int} {a b : Int} : ∀ n, sumN (fun j => a * G j + b * H j) n = a * sumN G n + b * sumN H n := sorry
theorem prR_len {al : Nat → Bool} (ok : scOK S N) (bn : bnOK S) (ht : hTy S h) (dn : hDn S h al) : ∀ (f r : Nat), r < h.1 → al r = true → ((prR S N h f r).length : Int) ≤ 2 + (104 * mzV S h f r + 4 * mzB S h f r) := sorry
theorem mzI_g {f : Nat → Ac → Ac} (hf : ∀ x a, a.2.2.1 ≤ (f x a).2.2.1) {m3 k9 bb rc : Bool} : ∀ (L : List It) (a : Ac), a.2.2.1 ≤ (mzI f m3 k9 bb rc L a).2.2.1 ∧ (rc = true → ∀ q ∈ L, ∃ a', (f q.2.2.2.2 a').2.2.1 ≤ (mzI f m3 k9 bb rc L a).2.2.1) := sorry
theorem mzF1_g {f : Nat → Ac → Ac} (hf : ∀ x a, a.2.2.1 ≤ (f x a).2.2.1) {l : List It} {a : Ac} (l1 : S 11 t j < 2 → l.length ≤ 1) : a.2.2.1 ≤ (mzF1 S t j f l a).2.2.1 ∧ (S 12 t j = 12 → ∀ q ∈ l, ∃ a', (f q.2.2.2.2 a').2.2.1 ≤ (mzF1 S t j f l a).2.2.1) := sorry
theorem mzL_g {f : Nat → Ac → Ac} (hf : ∀ x a, a.2.2.1 ≤ (f x a).2.2.1) {v : Nat → List It} : ∀ (m j : Nat) (a : Ac), (∀ i, j ≤ i → i < j + m → S 11 t i < 2 → (v i).length ≤ 1) → a.2.2.1 ≤ (mzL S t f v m j a).2.2.1 ∧ ∀ i, j ≤ i → i < j + m → S 12 t i = 12 → ∀ q ∈ v i, ∃ a', (f q.2.2.2.2 a').2.2.1 ≤ (mzL S t f v m j a).2.2.1 := sorry
theorem mzA_g (hi : hI S h) {al : Nat → Bool} (dn : hDn S h al) : ∀ (c r dp : Nat) (a : Ac), r < h.1 → al r = true → (a.2.2.1 ≤ (mzA S h c r dp a).2.2.1) ∧ ((mzA S h c r dp a).2.2.1 ≤ 12 → dpL S h c r dp) := sorry
end Pl
end
section
section Pq
variable {μ μ' μ'' μ0 : ab_M} {d : Nat} {O : List Int} {S : SF} {N : NF} {m s t j r f uM pM k bs : Nat} {h g : He} {ε : Nat → Nat} {W : Nat → List We} {c uc : Nat → List Nat} {own : Nat → Nat}
theorem prW_rec {P : Nat → List Int} (H : tH S μ0 m s h.1 (fun _ => true) h.2.1 h.2.2.1 h.2.2.2 ε W c uc own uM pM) (ok : scOK S N) (bn : bnOK S) (hi : hI S h) (hr : r < h.1) : prW S N (h.2.1 r) P none (W r) = prFs S N (h.2.1 r) P (h.2.2.1 r) (fCt S (h.2.1 r)) 0 false := sorry
theorem tw_TPp (H : tH S μ0 m s h.1 (fun _ => true) h.2.1 h.2.2.1 h.2.2.2 ε W c uc own uM pM) (ts : TS μ0 s S N) (bn : bnOK S) (hi : hI S h) (hn : hNm S h) (ic : hCn S h) : ∀ (f r G : Nat), r < h.1 → h.1 ≤ r + f → dpL S h f r (G + 1) → ∃ w, prR S N h f r = 123 :: w ∧ TPp d m μ0 ε w r G := sorry
def prM (S : SF) (N : NF) (h : He) : List Int := N 0 (h.2.1 0) 0 ++ prR S N h h.1 0
theorem prM_eq {al al' : Nat → Bool} (e : hEq S h g) (bn : bnOK S) (ht : hTy S h) (ht' : hTy S g) (dn : hDn S h al) (a0 : al 0 = true) (h0 : 0 < h.1) (dn' : hDn S g al') (a0' : al' 0 = true) (g0 : 0 < g.1) : prM S N h = prM S N g := sorry
theorem tw_printMessage (hm : m < 12) (mt : mT S N μ m s h) (bn : bnOK S) : R3 (ab_run wt (d + 8) 219 0 [(2, 7756), (0, m), (3, 0), (3, 0), (3, 0), (3, 0), (3, 0)] [] μ) (fun μ' => tOu μ' (prM S N h) ∧ frN μ μ') ∧ (prM S N h).length < 100000 := sorry
theorem tw_mt15 {row n : Nat} (hr : row < 8) (n4 : n ≤ 4000) : ∀ (l : List Int) (k : Nat) (μ : ab_M), k + l.length = n → μ 7756 172 = n → tBy μ 7887 k l → R0 (ab_run wt (d + 1) 160 15 [(2, 7756), (0, row), (0, k)] [] μ) (fun v μ' => v = n ∧ μ' 7759 row = n ∧ tBy μ' 7758 (4000 * row + k) l ∧ ∀ a i, (a ≠ 7759 ∨ i ≠ row) → (a ≠ 7758 ∨ i < 4000 * row + k ∨ 4000 * row + 4000 ≤ i) → μ' a i = μ a i) := sorry
theorem tw_madeTo {row : Nat} (hr : row < 8) (c : tOu μ O) (ln : O.length < 1000000) : R0 (ab_run wt (d + 1) 160 0 [(2, 7756), (0, row), (3, 0)] [] μ) (fun v μ' => if 4000 < O.length then v = -3 ∧ μ' = μ else v = O.length ∧ μ' 7759 row = O.length ∧ tBy μ' 7758 (4000 * row) O ∧ ∀ a i, (a ≠ 7759 ∨ i ≠ row) → (a ≠ 7758 ∨ i < 4000 * row ∨ 4000 * row + 4000 ≤ i) → μ' a i = μ a i) := sorry
theorem tw_print {row : Nat} (hm : m < 12) (hr : row < 8) (bn : bnOK S) (fl : μ 7862 m = 0 ∨ μ 7862 m = 1 ∧ mT S N μ m s h) :
    R0 (ab_run wt (d + 9) 217 0 [(2, 7756), (0, m), (0, row)] [] μ) (fun v μ' => if μ 7862 m = 0 then v = -2 ∧ μ' = μ else (∀ a i, a ≠ 7887 → a ≠ 7888 → a ≠ 7889 → (a ≠ 7756 ∨ i ≠ 172 ∧ i ≠ 175) → (a ≠ 7759 ∨ i ≠ row) → (a ≠ 7758 ∨ i < 4000 * row ∨ 4000 * row + 4000 ≤ i) → μ' a i = μ a i) ∧ if 4000 < (prM S N h).length then v = -3 ∧ (∀ a i, a = 7759 ∨ a = 7758 → μ' a i = μ a i) else v = (prM S N h).length ∧ μ' 7759 row = (prM S N h).length ∧ tBy μ' 7758 (4000 * row) (prM S N h)) := sorry
theorem c_print {D row : Nat} (hD : 1000 ≤ D) (hm : m < 12) (hr : row < 8) (bn : bnOK S) (fl : μ (6314 + 27 * m) 0 = 0 ∨ μ (6314 + 27 * m) 0 = 1 ∧ mC S N μ m s bs h) :
    R0 (ab_run wc ((D + 1)) 471 0 [(2, 1), (0, m), (0, row), (3, 0)] [] μ) (fun v μ' => if μ (6314 + 27 * m) 0 = 0 then v = -2 ∧ μ' = μ else (∀ a i, (a ≠ 1310 ∨ i ≠ 1) → a ≠ 1311 → (a ≠ 1 ∨ i ≠ 22) → (a ≠ rwA row ∨ i ≠ 1) → a ≠ rbA row → μ' a i = μ a i) ∧ if 4000 < (prM S N h).length then v = -3 ∧ (∀ a i, 1337 < a → a < 1354 → μ' a i = μ a i) else v = (prM S N h).length ∧ cRow μ' (rwA row) (rbA row) 4000 (prM S N h)) := sorry
end Pq
end
section
section Vn
variable {μ μ' μ'' : ab_M} {d ra ba cap : Nat} {O O1 O2 l : List Int} {x v : Int}
def vnF : Nat → Nat → List Int
  | 0, u => [(u : Int)]
  | f + 1, u => if u < 128 then [(u : Int)] else ((u % 128 + 128 : Nat) : Int) :: vnF f (u / 128)
def uns (v : Int) : Nat := (v % 18446744073709551616).toNat
def vnt (v : Int) : List Int := vnF 9 (uns v)
def vsz (v : Int) : Nat := (vnt v).length
theorem uns_lt : uns v < 18446744073709551616 := sorry
theorem uns_n {u : Nat} (h : u < 18446744073709551616) : uns (u : Int) = u := sorry
theorem vnF_len : ∀ f u, 1 ≤ (vnF f u).length ∧ (vnF f u).length ≤ f + 1 := sorry
theorem vsz_rg : 1 ≤ vsz v ∧ vsz v ≤ 10 := sorry
theorem vnF_byt : ∀ f u, u < 128 ^ (f + 1) → byt (vnF f u) := sorry
theorem p128 : 18446744073709551616 < 128 ^ (9 + 1) := sorry
theorem vnt_byt : byt (vnt v) := sorry
theorem vnF_8 : ∀ f a b, a / 128 = b / 128 → (vnF f a).length = (vnF f b).length := sorry
theorem ush7 (x : Int) : ushr64 x 7 = ((uns x / 128 : Nat) : Int) := sorry
theorem uns_7 (x : Int) : uns (ushr64 x 7) = uns x / 128 := sorry
theorem lng_7 (x : Int) : lng (ushr64 x 7) := sorry
theorem c_sv7 : ∀ (f n u : Nat), u < 128 ^ (f + 1) → u < 18446744073709551616 → n + f < 100 → (ab_run wc (d + 1) 519 7 [(3, 0), (3, 0), (0, (((n + 1 : Nat) : Int))), (1, (((u / 128 : Nat) : Int))), (3, 0)] [] μ) = some ((0, ((n + (vnF f u).length : Nat) : Int)), μ) := sorry
theorem c_sizeOfVarint : (ab_run wc (d + 1) 519 0 [(1, x), (3, 0), (3, 0), (3, 0), (3, 0)] [] μ) = some ((0, (vsz x : Int)), μ) := sorry
theorem tw_sv8 : ∀ (f n u : Nat), u < 128 ^ (f + 1) → u < 18446744073709551616 → n + f < 100 → (ab_run wt (d + 1) 320 8 [(3, 0), (3, 0), (3, 0), (0, (((n + 1 : Nat) : Int))), (1, (((u / 128 : Nat) : Int))), (3, 0)] [] μ) = some ((0, ((n + (vnF f u).length : Nat) : Int)), μ) := sorry
theorem tw_varintSize : (ab_run wt (d + 1) 320 0 [(2, 7756), (1, x), (3, 0), (3, 0), (3, 0), (3, 0)] [] μ) = some ((0, (vsz x : Int)), μ) := sorry
def cW (μ : ab_M) (ra ba cap : Nat) (O : List Int) : Prop := isO ra ba cap ∧ μ 1 24 = ra ∧ cOu μ ra ba cap O
def cV (run : ab_R) (μ : ab_M) (ra ba cap : Nat) (O : List Int) : Prop := R3 run (fun μ' => cW μ' ra ba cap O ∧ frU ra ba μ μ')
theorem cV.seq {f : ab_M → ab_R} {run : ab_R} (a : cV run μ ra ba cap O1) (b : ∀ μ', cW μ' ra ba cap O1 → frU ra ba μ μ' → cV (f μ') μ' ra ba cap O2) : cV (ab_cal run 3 (fun r1 μ1 => some ((4, r1), μ1)) (fun _ μ1 => f μ1)) μ ra ba cap O2 := sorry
theorem cV.end {run : ab_R} (a : cV run μ ra ba cap O1) : cV (ab_cal run 3 (fun r1 μ1 => some ((4, r1), μ1)) (fun _ μ1 => some ((3, 0), μ1))) μ ra ba cap O1 := sorry
theorem cV.to {run run' : ab_R} (a : cV run μ ra ba cap O1) (e : run' = run) (h : O1 = O2) : cV run' μ ra ba cap O2 := sorry
theorem cW.out (c : cW μ ra ba cap O) (f : frU ra ba μ μ') : μ' 1 24 = ra := sorry
theorem cO.vv {run : ab_R} (c : cW μ ra ba cap O) (a : cO run μ ra ba cap O1) : cV run μ ra ba cap O1 := sorry
theorem v_putByte (c : cW μ ra ba cap O) : cV (ab_run wc (d + 2) 479 0 [(2, 1), (0, x)] [] μ) μ ra ba cap (O ++ [x % 256]) := sorry
theorem v_putBytes {b o lb : Nat} (c : cW μ ra ba cap O) (hb : wc_ar b = (4, lb)) (h1 : o + l.length ≤ lb) (h2 : cBy μ b o l) (h3 : l.length < 100000) : cV (ab_run wc (d + 2) 480 0 [(2, 1), (2, b), (0, o), (0, (l.length))] [] μ) μ ra ba cap (O ++ l) := sorry
theorem uns_sm (hx : lng x) (h : uns x < 128) : x = (uns x : Int) := sorry
theorem an127 : and64 x 127 = ((uns x % 128 : Nat) : Int) := sorry
theorem c_pv2 : ∀ (f : Nat) (x : Int) (μ : ab_M) (O : List Int), lng x → uns x < 128 ^ (f + 1) → cW μ ra ba cap O → cV (ab_run wc (d + 3) 485 2 [(2, 1), (3, 0), (3, 0), (1, x), (3, 0)] [] μ) μ ra ba cap (O ++ vnF f (uns x)) := sorry
theorem c_putVarint (hx : lng x) (c : cW μ ra ba cap O) : cV (ab_run wc (d + 3) 485 0 [(2, 1), (1, x), (3, 0), (3, 0), (3, 0)] [] μ) μ ra ba cap (O ++ vnt x) := sorry
theorem c_putKey {n w : Int} (h : 0 ≤ n) (h2 : n ≤ 536870911) (h3 : 0 ≤ w) (h4 : w < 8) (c : cW μ ra ba cap O) : cV (ab_run wc (d + 4) 482 0 [(2, 1), (0, n), (0, w)] [] μ) μ ra ba cap (O ++ vnt (8 * n + w)) := sorry
theorem tw_pv2 : ∀ (f : Nat) (x : Int) (μ : ab_M) (O : List Int), lng x → uns x < 128 ^ (f + 1) → tOu μ O → O.length + f < 2147483640 → tE (ab_run wt (d + 2) 241 2 [(2, 7756), (3, 0), (3, 0), (1, x), (3, 0)] [] μ) μ (O ++ vnF f (uns x)) := sorry
theorem tw_putVarint (hx : lng x) (c : tOu μ O) (ln : O.length < 2147483600) : tE (ab_run wt (d + 2) 241 0 [(2, 7756), (1, x), (3, 0), (3, 0), (3, 0)] [] μ) μ (O ++ vnt x) := sorry
noncomputable def zzg (v : Int) : Int := xor64 (shl64 v 1) (shr64 v 63)
noncomputable def wrd (k v : Int) : Int := if k = 3 ∨ k = 7 then zzg v else v
theorem xor64_rg (a b : Int) : lng (xor64 a b) := sorry
theorem wrd_lng {k : Int} (h : lng v) : lng (wrd k v) := sorry
theorem c_coded {k : Int} (h1 : 0 ≤ k) (h2 : k ≤ 12) : (ab_run wc (d + 2) 379 0 [(2, (200000 + k)), (1, v), (3, 0)] [] μ) = some ((1, wrd k v), μ) := sorry
theorem tw_wired {k : Int} : (ab_run wt (d + 1) 325 0 [(2, 7756), (0, k), (1, v), (3, 0)] [] μ) = some ((1, wrd k v), μ) := sorry
def lowB (v : Int) : Nat → Nat → List Int
  | 0, _ => []
  | n + 1, i => (v / 2 ^ (8 * i) % 256) :: lowB v n (i + 1)
noncomputable def nmB (k v : Int) : List Int := if kWire k = 0 then vnt (wrd k v) else lowB v (if kWire k = 1 then 8 else 4) 0
theorem lowB_len : ∀ n i, (lowB v n i).length = n := sorry
theorem kW_is (k : Int) : kWire k = 0 ∨ kWire k = 1 ∨ kWire k = 2 ∨ kWire k = 5 := sorry
noncomputable def nmZ (k v : Int) : Nat := (nmB k v).length
theorem nmZ_is {k : Int} : nmZ k v = if kWire k = 0 then vsz (wrd k v) else if kWire k = 1 then 8 else 4 := sorry
theorem nmZ_rg {k : Int} : 1 ≤ nmZ k v ∧ nmZ k v ≤ 10 := sorry
theorem c_sizeOfNumber {k : Int} (h1 : 0 ≤ k) (h2 : k ≤ 12) : (ab_run wc (d + 3) 515 0 [(2, (200000 + k)), (1, v), (3, 0)] [] μ) = some ((0, (nmZ k v : Int)), μ) := sorry
theorem tw_numberSize {k : Int} (h : kWire k ≠ 2) : (ab_run wt (d + 2) 181 0 [(2, 7756), (0, k), (1, v), (3, 0), (3, 0)] [] μ) = some ((0, (nmZ k v : Int)), μ) := sorry
theorem c_pn22 {k : Int} {n : Nat} (h1 : 0 ≤ k) (h2 : k ≤ 12) (hv : lng v) (hn : n = if kWire k = 1 then 8 else 4) : ∀ (m i : Nat) (μ : ab_M) (O : List Int), i + m = n → cW μ ra ba cap O → cV (ab_run wc (d + 3) 483 22 [(2, 1), (2, (200000 + k)), (1, v), (3, 0), (0, (((8 * i : Nat) : Int)))] [] μ) μ ra ba cap (O ++ lowB v m i) := sorry
theorem c_putNumber {k : Int} (h1 : 0 ≤ k) (h2 : k ≤ 12) (hv : lng v) (c : cW μ ra ba cap O) : cV (ab_run wc (d + 4) 483 0 [(2, 1), (2, (200000 + k)), (1, v), (3, 0), (3, 0)] [] μ) μ ra ba cap (O ++ nmB k v) := sorry
theorem tw_pw26 {w : Int} {n : Nat} (hv : lng v) (hn : n = if w = 1 then 8 else 4) : ∀ (m i : Nat) (μ : ab_M) (O : List Int), i + m = n → tOu μ O → O.length + m < 2147483640 → tE (ab_run wt (d + 2) 242 26 [(2, 7756), (3, 0), (1, v), (3, 0), (0, w), (0, i)] [] μ) μ (O ++ lowB v m i) := sorry
theorem tw_putWired {k : Int} (hv : lng v) (c : tOu μ O) (ln : O.length < 2147483500) : tE (ab_run wt (d + 3) 242 0 [(2, 7756), (0, k), (1, v), (3, 0), (3, 0), (3, 0)] [] μ) μ (O ++ nmB k v) := sorry
end Vn
end
section
section Ss
variable {S : SF} {N : NF} {h : He} {t j n : Nat} {P : Nat → List Int} {F : Nat → Int}
noncomputable def stV (k v : Int) (l pc : List Int) : List Int := if k ≤ 8 ∨ k = 11 then nmB k v else vnt ((if k = 12 then pc else l).length : Int) ++ (if k = 12 then pc else l)
noncomputable def stE (S : SF) (t j : Nat) (P : Nat → List Int) (q : It) : List Int := vnt (8 + kWire (S 14 t j)) ++ (stV (S 14 t j) q.1 q.2.1 [] ++ (vnt (16 + kWire (S 12 t j)) ++ stV (S 12 t j) q.2.2.1 q.2.2.2.1 (P q.2.2.2.2)))
noncomputable def stI (S : SF) (t j : Nat) (P : Nat → List Int) (q : It) : List Int := vnt (8 * S 10 t j + (if S 11 t j = 3 then 2 else kWire (S 12 t j))) ++ (if S 11 t j = 3 then vnt ((stE S t j P q).length : Int) ++ stE S t j P q else stV (S 12 t j) q.2.2.1 q.2.2.2.1 (P q.2.2.2.2))
noncomputable def pkB (k : Int) (L : List It) : List Int := L.flatMap fun q => nmB k q.2.2.1
noncomputable def stJ (S : SF) (t j : Nat) (P : Nat → List Int) (L : List It) : List Int := if S 11 t j = 2 ∧ (S 12 t j ≤ 8 ∨ S 12 t j = 11) then vnt (8 * S 10 t j + 2) ++ (vnt ((pkB (S 12 t j) L).length : Int) ++ pkB (S 12 t j) L) else L.flatMap (stI S t j P)
noncomputable def stG (S : SF) (t : Nat) (P : Nat → List Int) (v : Nat → List It) (j : Nat) : List Int := if v j = [] then [] else stJ S t j P (v j)
noncomputable def stFs (S : SF) (t : Nat) (P : Nat → List Int) (v : Nat → List It) : Nat → Nat → List Int
  | 0, _ => []
  | m + 1, k => stG S t P v (S 20 t k).toNat ++ stFs S t P v m (k + 1)
def stU (L : List Un) : List Int := L.flatMap fun u => vnt (8 * u.1 + u.2.1) ++ u.2.2
noncomputable def stR (S : SF) (h : He) : Nat → Nat → List Int
  | 0, _ => []
  | f + 1, r => stFs S (h.2.1 r) (stR S h f) (h.2.2.1 r) (fCt S (h.2.1 r)) 0 ++ stU (h.2.2.2 r)
theorem vnt_1 {x : Int} (h : 0 ≤ x) (h2 : x < 128) : (vnt x).length = 1 := sorry
theorem vsz_8 {n w : Int} (h : 0 ≤ n) (h2 : n ≤ 536870911) (h3 : 0 ≤ w) (h4 : w < 8) : (vnt (8 * n + w)).length = vsz (8 * n) := sorry
theorem kW_rg (k : Int) : 0 ≤ kWire k ∧ kWire k < 8 := sorry
theorem stE_len {q : It} : (stE S t j P q).length = 2 + (stV (S 14 t j) q.1 q.2.1 []).length + (stV (S 12 t j) q.2.2.1 q.2.2.2.1 (P q.2.2.2.2)).length := sorry
theorem stFs_len {v : Nat → List It} : ∀ m k, ((stFs S t P v m k).length : Int) = sumB S t (fun j => ((stG S t P v j).length : Int)) m k := sorry
theorem stR_len (bn : bnOK S) {r : Nat} {f : Nat} (t1 : (h.2.1 r : Int) < S 0 0 0) (t2 : S 2 (h.2.1 r) 0 = 1) : ((stR S h (f + 1) r).length : Int) = sumN (fun j => ((stG S (h.2.1 r) (stR S h f) (h.2.2.1 r) j).length : Int)) (fCt S (h.2.1 r)) + (stU (h.2.2.2 r)).length := sorry
theorem vnt_len (x : Int) : 1 ≤ (vnt x).length ∧ (vnt x).length ≤ 10 := sorry
theorem nmB_len (k v : Int) : 1 ≤ (nmB k v).length ∧ (nmB k v).length ≤ 10 := sorry
theorem stV_len {k v : Int} {l pc : List Int} : ((stV k v l pc).length : Int) ≤ 10 + l.length + (if k = 12 then (pc.length : Int) else 0) := sorry
theorem stV_pc {v : Int} {l pc : List Int} : pc.length ≤ (stV 12 v l pc).length := sorry
theorem stI_len {q : It} (fk : S 11 t j = 3 → S 14 t j ≠ 12) : ((stI S t j P q).length : Int) ≤ 21 * (if S 11 t j = 3 then 2 else 1) + q.2.1.length + q.2.2.2.1.length + (if S 12 t j = 12 then ((P q.2.2.2.2).length : Int) else 0) := sorry
theorem stJ_len {L : List It} (fk : S 11 t j = 3 → S 14 t j ≠ 12) (hP : S 12 t j = 12 → ∀ q ∈ L, ((P q.2.2.2.2).length : Int) ≤ F q.2.2.2.2) (hL : L ≠ []) : ((stJ S t j P L).length : Int) ≤ 21 * wgV (S 11 t j) L + byV L + (if S 12 t j = 12 then sumI F L else 0) := sorry
theorem stG_len {v : Nat → List It} (fk : S 11 t j = 3 → S 14 t j ≠ 12) (hP : S 12 t j = 12 → ∀ q ∈ v j, ((P q.2.2.2.2).length : Int) ≤ F q.2.2.2.2) (F0 : ∀ x, 0 ≤ F x) : ((stG S t P v j).length : Int) ≤ 21 * wgV (S 11 t j) (v j) + byV (v j) + (if S 12 t j = 12 then sumI F (v j) else 0) := sorry
theorem stU_len : ∀ L : List Un, ((stU L).length : Int) ≤ 10 * L.length + byU L := sorry
theorem stR_le {al : Nat → Bool} (ok : scOK S N) (bn : bnOK S) (ht : hTy S h) (dn : hDn S h al) : ∀ (f r : Nat), r < h.1 → al r = true → ((stR S h f r).length : Int) ≤ 21 * mzV S h f r + mzB S h f r := sorry
end Ss
end
section
section Sz
variable {μ μ' μ'' μ0 : ab_M} {d D : Nat} {S : SF} {N : NF} {A cr ci cb kS b : Nat} {X : Rsv} {h : He} {ni nu us r j : Nat} {P : Nat → List Int}
theorem c_szV {k v w x5 x6 : Int} {l pc : List Int} (k1 : 0 ≤ k) (k2 : k ≤ 12) (hv : k ≤ 8 ∨ k = 11 → v = w) (hl : k = 9 ∨ k = 10 → x5 = l.length ∧ l.length < 1000000000) (hr : k = 12 → pc.length < 1000000000 ∧ (ab_run wc (D + 3) 517 0 [(2, 1), (2, A), (0, x6), (3, 0), (3, 0), (3, 0), (3, 0), (3, 0), (3, 0), (3, 0), (3, 0)] [] μ) = some ((0, (pc.length : Int)), μ)) : (ab_run wc (D + 4) 518 0 [(2, 1), (2, A), (2, (200000 + k)), (1, v), (3, 0), (0, x5), (0, x6), (3, 0)] [] μ) = some ((0, ((stV k w l pc).length : Int)), μ) := sorry
def szQ (A : Nat) (μ : ab_M) (D : Nat) (P : Nat → List Int) (q : It) : Prop := ∀ D', D ≤ D' → (P q.2.2.2.2).length < 100000000 ∧ (ab_run wc (D') 517 0 [(2, 1), (2, A), (0, (q.2.2.2.2)), (3, 0), (3, 0), (3, 0), (3, 0), (3, 0), (3, 0), (3, 0), (3, 0)] [] μ) = some ((0, ((P q.2.2.2.2).length : Int)), μ)
theorem c_szE {i : Nat} {q : It} (hm : isM A cr ci cb) (ms : cMS μ A kS b S N) (cm : CM X S μ A cr ci cb h.1 h.2.1 h.2.2.1 h.2.2.2 ni nu us) (hr : r < h.1) (hj : j < fCt S (h.2.1 r)) (z : S 11 (h.2.1 r) j = 3) (ic : i < ci) (u2 : us ≤ cb) (iq : cIt μ A us (fSo (S 12 (h.2.1 r) j)) (fKs (S 11 (h.2.1 r) j) (S 14 (h.2.1 r) j)) i q) (nh : q.2.2.2.2 ≠ hole) (hP : S 12 (h.2.1 r) j = 12 → szQ A μ (D + 3) P q) (hz : (stE S (h.2.1 r) j P q).length < 100000000) : (ab_run wc (D + 5) 514 0 [(2, 1), (2, A), (2, (fdA b (h.2.1 r) j)), (0, i)] [] μ) = some ((0, ((stE S (h.2.1 r) j P q).length : Int)), μ) := sorry
end Sz
end
section
section Sz
variable {μ μ' μ'' μ0 : ab_M} {d D : Nat} {S : SF} {N : NF} {A cr ci cb kS b : Nat} {X : Rsv} {h : He} {ni nu us r j : Nat} {P : Nat → List Int}
def chI (μ : ab_M) (A ci us so ks : Nat) (ch : List Nat) (L0 : List It) : Prop := (∀ (k i : Nat) (t : It), ch[k]? = some i → L0[k]? = some t → cIt μ A us so ks i t) ∧ (∀ (k i : Nat), ch[k]? = some i → μ (msA A 22) i = nx ch (k + 1)) ∧ ∀ i ∈ ch, i < ci
theorem chI.at {so ks p : Nat} {ch : List Nat} {L0 L : List It} {q : It} (c : chI μ A ci us so ks ch L0) (hL : ∀ x : Nat, L0[p + x]? = (q :: L)[x]?) (hp : p < ch.length) : ∃ i, nx ch p = (i : Nat) ∧ i < ci ∧ cIt μ A us so ks i q ∧ μ (msA A 22) i = nx ch (p + 1) ∧ q ∈ L0 ∧ ∀ x : Nat, L0[p + 1 + x]? = L[x]? := sorry
theorem c_szP {ch : List Nat} {L0 : List It} (hm : isM A cr ci cb) (ms : cMS μ A kS b S N) (cm : CM X S μ A cr ci cb h.1 h.2.1 h.2.2.1 h.2.2.2 ni nu us) (hr : r < h.1) (hj : j < fCt S (h.2.1 r)) (num : S 12 (h.2.1 r) j ≤ 8 ∨ S 12 (h.2.1 r) j = 11) (c : chI μ A ci us (fSo (S 12 (h.2.1 r) j)) (fKs (S 11 (h.2.1 r) j) (S 14 (h.2.1 r) j)) ch L0) (nh : ∀ q ∈ L0, q.2.2.2.2 ≠ hole) :
    ∀ (L : List It) (p a : Nat), (∀ q : Nat, L0[p + q]? = L[q]?) → p + L.length = ch.length → a + (pkB (S 12 (h.2.1 r) j) L).length < 100000000 → (ab_run wc (D + 4) 516 11 [(3, 0), (2, A), (2, (fdA b (h.2.1 r) j)), (3, 0), (0, a), (0, (nx ch p))] [] μ) = some ((0, ((a + (pkB (S 12 (h.2.1 r) j) L).length : Nat) : Int)), μ) := sorry
theorem c_sz180 {ch : List Nat} {L0 : List It} {x5 : Nat} (hm : isM A cr ci cb) (ms : cMS μ A kS b S N) (cm : CM X S μ A cr ci cb h.1 h.2.1 h.2.2.1 h.2.2.2 ni nu us) (hr : r < h.1) (hj : j < fCt S (h.2.1 r)) (my : 2 ≤ S 11 (h.2.1 r) j) (np : ¬ (S 11 (h.2.1 r) j = 2 ∧ (S 12 (h.2.1 r) j ≤ 8 ∨ S 12 (h.2.1 r) j = 11))) (u2 : us ≤ cb) (hx : x5 < 1000) (c : chI μ A ci us (fSo (S 12 (h.2.1 r) j)) (fKs (S 11 (h.2.1 r) j) (S 14 (h.2.1 r) j)) ch L0) (nh : ∀ q ∈ L0, q.2.2.2.2 ≠ hole) (hP : S 12 (h.2.1 r) j = 12 → ∀ q ∈ L0, szQ A μ (D + 3) P q) :
    ∀ (L : List It) (p a : Nat), (∀ q : Nat, L0[p + q]? = L[q]?) → p + L.length = ch.length → a + (L.flatMap (stI S (h.2.1 r) j P)).length < 100000000 → (ab_run wc (D + 6) 517 180 [(2, 1), (2, A), (0, r), (0, a), (2, (tyA b (h.2.1 r))), (0, x5), (2, (fdA b (h.2.1 r) j)), (3, 0), (0, (vsz (8 * S 10 (h.2.1 r) j))), (0, (nx ch p)), (3, 0)] [] μ) = (ab_run wc (D + 6) 517 13 [(2, 1), (2, A), (0, r), (0, (((a + (L.flatMap (stI S (h.2.1 r) j P)).length : Nat) : Int))), (2, (tyA b (h.2.1 r))), (0, (((x5 + 1 : Nat) : Int))), (3, 0), (3, 0), (3, 0), (3, 0), (3, 0)] [] μ) := sorry
theorem c_sz287 {ch : List Nat} {L0 : List Un} (hm : isM A cr ci cb) (u2 : us ≤ cb) (Fu : ∀ (k i : Nat) (t : Un), ch[k]? = some i → L0[k]? = some t → μ (msA A 27) i = t.1 ∧ μ (msA A 28) i = t.2.1 ∧ cMt μ A us 29 30 i t.2.2) (F31 : ∀ (k i : Nat), ch[k]? = some i → μ (msA A 31) i = nx ch (k + 1)) (Fc : ∀ i ∈ ch, i < ci) (un : ∀ u ∈ L0, unOK u) :
    ∀ (L : List Un) (p a : Nat), (∀ q : Nat, L0[p + q]? = L[q]?) → p + L.length = ch.length → a + (stU L).length < 1000000000 → (ab_run wc (D + 2) 517 287 [(3, 0), (2, A), (3, 0), (0, a), (3, 0), (0, (nx ch p)), (3, 0), (3, 0), (3, 0), (3, 0), (3, 0)] [] μ) = some ((0, ((a + (stU L).length : Nat) : Int)), μ) := sorry
end Sz
end
section
section Sz
variable {μ μ' μ'' μ0 : ab_M} {d D : Nat} {S : SF} {N : NF} {A cr ci cb kS b : Nat} {X : Rsv} {h : He} {ni nu us r j : Nat} {P : Nat → List Int}
theorem nhF (hr : r < h.1) (cn : hCn S h) (h1000 : h.1 < hole) (hj : j < fCt S (h.2.1 r)) (hc : S 12 (h.2.1 r) j = 12 → ∀ q ∈ h.2.2.1 r j, q.2.2.2.2 < h.1) : ∀ q ∈ h.2.2.1 r j, q.2.2.2.2 ≠ hole := sorry
theorem CM.one1 (cm : CM X S μ A cr ci cb h.1 h.2.1 h.2.2.1 h.2.2.2 ni nu us) (hr : r < h.1) (hj : j < fCt S (h.2.1 r)) (my : S 11 (h.2.1 r) j < 2) (hi : hI S h) (ev : h.2.2.1 r j ≠ []) : ∃ u, h.2.2.1 r j = [u] ∧ cHv μ A us (fSo (S 12 (h.2.1 r) j)) (bsF S h.2.1 r + j) u := sorry
theorem CM.many1 (cm : CM X S μ A cr ci cb h.1 h.2.1 h.2.2.1 h.2.2.2 ni nu us) (hr : r < h.1) (hj : j < fCt S (h.2.1 r)) (my : 2 ≤ S 11 (h.2.1 r) j) (ev : h.2.2.1 r j ≠ []) : ∃ ch : List Nat, ch.length = (h.2.2.1 r j).length ∧ ch.Nodup ∧ chI μ A ci us (fSo (S 12 (h.2.1 r) j)) (fKs (S 11 (h.2.1 r) j) (S 14 (h.2.1 r) j)) ch (h.2.2.1 r j) ∧ μ (msA A 14) (bsF S h.2.1 r + j) = nx ch 0 := sorry
theorem c_sz13 (hm : isM A cr ci cb) (ms : cMS μ A kS b S N) (cm : CM X S μ A cr ci cb h.1 h.2.1 h.2.2.1 h.2.2.2 ni nu us) (hr : r < h.1) (cn : hCn S h) (hi : hI S h) (hn : hNm S h) (h1000 : h.1 < hole) (hc : ∀ j, j < fCt S (h.2.1 r) → S 12 (h.2.1 r) j = 12 → ∀ q ∈ h.2.2.1 r j, q.2.2.2.2 < h.1 ∧ szQ A μ (D + 3) P q) :
    ∀ (m j a : Nat), j + m = fCt S (h.2.1 r) → (a : Int) = sumN (fun j => ((stG S (h.2.1 r) P (h.2.2.1 r) j).length : Int)) j → sumN (fun j => ((stG S (h.2.1 r) P (h.2.2.1 r) j).length : Int)) (fCt S (h.2.1 r)) + (stU (h.2.2.2 r)).length < 100000000 → (ab_run wc (D + 6) 517 13 [(2, 1), (2, A), (0, r), (0, a), (2, (tyA b (h.2.1 r))), (0, j), (3, 0), (3, 0), (3, 0), (3, 0), (3, 0)] [] μ) = some ((0, sumN (fun j => ((stG S (h.2.1 r) P (h.2.2.1 r) j).length : Int)) (fCt S (h.2.1 r)) + (stU (h.2.2.2 r)).length), μ) := sorry
theorem c_SZ {al : Nat → Bool} (hm : isM A cr ci cb) (bn : bnOK S) (ht : hTy S h) (cn : hCn S h) (hi : hI S h) (hn : hNm S h) (h1000 : h.1 < hole) (dn : hDn S h al) (ms : cMS μ A kS b S N) (cm : CM X S μ A cr ci cb h.1 h.2.1 h.2.2.1 h.2.2.2 ni nu us) (bd : ∀ f r, r < h.1 → al r = true → h.1 ≤ r + f → ((stR S h f r).length : Int) < 100000000) : ∀ (f D r : Nat), 3 * f + 6 ≤ D → r < h.1 → al r = true → h.1 ≤ r + f → (ab_run wc D 517 0 [(2, 1), (2, A), (0, r), (3, 0), (3, 0), (3, 0), (3, 0), (3, 0), (3, 0), (3, 0), (3, 0)] [] μ) = some ((0, ((stR S h f r).length : Int)), μ) := sorry
end Sz
end
section
section Sw
variable {μ μ' μ'' μ0 : ab_M} {d D ra ba cap : Nat} {O O1 O2 : List Int} {S : SF} {N : NF} {A cr ci cb kS b : Nat} {X : Rsv} {h : He} {ni nu us r j : Nat} {P : Nat → List Int}
theorem frU.ng {a i : Nat} (f : frU ra ba μ μ') (o : isO ra ba cap) (h1 : a ≠ 1) (h2 : a ≠ 1310 ∧ a ≠ 1311 ∧ a ≠ 1312 ∧ a ≠ 1313) : μ' a i = μ a i := sorry
theorem cMS.uu (c : cMS μ A kS b S N) (hm : isM A cr ci cb) (o : isO ra ba cap) (f : frU ra ba μ μ') : cMS μ' A kS b S N := sorry
theorem CM.uu {nr : Nat} {ty : Nat → Nat} {V : Nat → Nat → List It} {U : Nat → List Un} (c : CM X S μ A cr ci cb nr ty V U ni nu us) (hm : isM A cr ci cb) (o : isO ra ba cap) (f : frU ra ba μ μ') : CM X S μ' A cr ci cb nr ty V U ni nu us := sorry
theorem fmU (hm : isM A cr ci cb) (o : isO ra ba cap) (f : frU ra ba μ μ') (g x : Nat) : μ' (msA A g) x = μ (msA A g) x := sorry
theorem c_swV {k v w x5 x6 x7 : Int} {l pc : List Int} {o : Nat} (hm : isM A cr ci cb) (k1 : 0 ≤ k) (k2 : k ≤ 12) (hv : k ≤ 8 ∨ k = 11 → v = w ∧ lng w) (hl : k = 9 ∨ k = 10 → x5 = o ∧ x6 = l.length ∧ o + l.length ≤ cb ∧ cBy μ (msA A 32) o l) (hr : k = 12 → pc.length < 100000000 ∧ (ab_run wc (D + 4) 517 0 [(2, 1), (2, A), (0, x7), (3, 0), (3, 0), (3, 0), (3, 0), (3, 0), (3, 0), (3, 0), (3, 0)] [] μ) = some ((0, (pc.length : Int)), μ) ∧ ∀ μ' O', frU ra ba μ μ' → cW μ' ra ba cap O' → cV (ab_run wc (D + 4) 542 0 [(2, 1), (2, A), (0, x7), (3, 0), (3, 0), (3, 0), (3, 0), (3, 0)] [] μ') μ' ra ba cap (O' ++ pc)) (c : cW μ ra ba cap O) : cV (ab_run wc (D + 5) 543 0 [(2, 1), (2, A), (2, (200000 + k)), (1, v), (3, 0), (0, x5), (0, x6), (0, x7)] [] μ) μ ra ba cap (O ++ stV k w l pc) := sorry
def swQ (A ra ba cap : Nat) (μ0 : ab_M) (D : Nat) (P : Nat → List Int) (q : It) : Prop := (P q.2.2.2.2).length < 100000000 ∧ ∀ D', D ≤ D' → ∀ μ, frU ra ba μ0 μ → (ab_run wc (D') 517 0 [(2, 1), (2, A), (0, (q.2.2.2.2)), (3, 0), (3, 0), (3, 0), (3, 0), (3, 0), (3, 0), (3, 0), (3, 0)] [] μ) = some ((0, ((P q.2.2.2.2).length : Int)), μ) ∧ ∀ O, cW μ ra ba cap O → cV (ab_run wc (D') 542 0 [(2, 1), (2, A), (0, (q.2.2.2.2)), (3, 0), (3, 0), (3, 0), (3, 0), (3, 0)] [] μ) μ ra ba cap (O ++ P q.2.2.2.2)
theorem swQ.sz {q : It} (s : swQ A ra ba cap μ0 D P q) (f : frU ra ba μ0 μ) : szQ A μ D P q := sorry
theorem chI.uu {so ks : Nat} {ch : List Nat} {L0 : List It} (c : chI μ A ci us so ks ch L0) (hm : isM A cr ci cb) (o : isO ra ba cap) (f : frU ra ba μ μ') : chI μ' A ci us so ks ch L0 := sorry
theorem c_sw59 {ch : List Nat} {L0 : List It} {x4 : Int} (hm : isM A cr ci cb) (ms0 : cMS μ0 A kS b S N) (cm0 : CM X S μ0 A cr ci cb h.1 h.2.1 h.2.2.1 h.2.2.2 ni nu us) (hr : r < h.1) (hj : j < fCt S (h.2.1 r)) (my : 2 ≤ S 11 (h.2.1 r) j) (u2 : us ≤ cb) (pk : x4 = 0 ↔ ¬ (S 11 (h.2.1 r) j = 2 ∧ (S 12 (h.2.1 r) j ≤ 8 ∨ S 12 (h.2.1 r) j = 11))) (c0 : chI μ0 A ci us (fSo (S 12 (h.2.1 r) j)) (fKs (S 11 (h.2.1 r) j) (S 14 (h.2.1 r) j)) ch L0) (nh : ∀ q ∈ L0, q.2.2.2.2 ≠ hole) (hl : ∀ q ∈ L0, lng q.1 ∧ lng q.2.2.1) (hz : x4 = 0 → ∀ q ∈ L0, (stI S (h.2.1 r) j P q).length < 100000000) (hP : S 12 (h.2.1 r) j = 12 → ∀ q ∈ L0, swQ A ra ba cap μ0 (D + 4) P q) :
    ∀ (L : List It) (p : Nat) (μ : ab_M) (O : List Int), frU ra ba μ0 μ → (∀ q : Nat, L0[p + q]? = L[q]?) → p + L.length = ch.length → cW μ ra ba cap O → cV (ab_run wc (D + 7) 540 59 [(2, 1), (2, A), (2, (fdA b (h.2.1 r) j)), (3, 0), (0, x4), (0, (nx ch p))] [] μ) μ ra ba cap (O ++ (if x4 = 0 then L.flatMap (stI S (h.2.1 r) j P) else pkB (S 12 (h.2.1 r) j) L)) := sorry
end Sw
end
section
section Sw
variable {μ μ' μ'' μ0 : ab_M} {d D ra ba cap : Nat} {O O1 O2 : List Int} {S : SF} {N : NF} {A cr ci cb kS b : Nat} {X : Rsv} {h : He} {ni nu us r j : Nat} {P : Nat → List Int}
theorem c_streamItems (hm : isM A cr ci cb) (ms0 : cMS μ0 A kS b S N) (cm0 : CM X S μ0 A cr ci cb h.1 h.2.1 h.2.2.1 h.2.2.2 ni nu us) (hr : r < h.1) (hj : j < fCt S (h.2.1 r)) (my : 2 ≤ S 11 (h.2.1 r) j) (hi : hI S h) (hn : hNm S h) (ev : h.2.2.1 r j ≠ []) (nh : ∀ q ∈ h.2.2.1 r j, q.2.2.2.2 ≠ hole) (hz : (stJ S (h.2.1 r) j P (h.2.2.1 r j)).length < 100000000) (hP : S 12 (h.2.1 r) j = 12 → ∀ q ∈ h.2.2.1 r j, swQ A ra ba cap μ0 (D + 4) P q) (f : frU ra ba μ0 μ) (c : cW μ ra ba cap O) :
    cV (ab_run wc (D + 7) 540 0 [(2, 1), (2, A), (2, (fdA b (h.2.1 r) j)), (0, (((bsF S h.2.1 r + j : Nat) : Int))), (3, 0), (3, 0)] [] μ) μ ra ba cap (O ++ stJ S (h.2.1 r) j P (h.2.2.1 r j)) := sorry
theorem c_sw152 {ch : List Nat} {L0 : List Un} (hm : isM A cr ci cb) (u2 : us ≤ cb) (Fu : ∀ (k i : Nat) (t : Un), ch[k]? = some i → L0[k]? = some t → μ0 (msA A 27) i = t.1 ∧ μ0 (msA A 28) i = t.2.1 ∧ cMt μ0 A us 29 30 i t.2.2) (F31 : ∀ (k i : Nat), ch[k]? = some i → μ0 (msA A 31) i = nx ch (k + 1)) (Fc : ∀ i ∈ ch, i < ci) (un : ∀ u ∈ L0, unOK u) :
    ∀ (L : List Un) (p : Nat) (μ : ab_M) (O : List Int), frU ra ba μ0 μ → (∀ q : Nat, L0[p + q]? = L[q]?) → p + L.length = ch.length → cW μ ra ba cap O → cV (ab_run wc (D + 5) 542 152 [(2, 1), (2, A), (3, 0), (3, 0), (0, (nx ch p)), (3, 0), (3, 0), (3, 0)] [] μ) μ ra ba cap (O ++ stU L) := sorry
theorem c_sw10 (hm : isM A cr ci cb) (ms0 : cMS μ0 A kS b S N) (cm0 : CM X S μ0 A cr ci cb h.1 h.2.1 h.2.2.1 h.2.2.2 ni nu us) (bn : bnOK S) (hr : r < h.1) (cn : hCn S h) (hi : hI S h) (hn : hNm S h) (h1000 : h.1 < hole) (hc : ∀ j, j < fCt S (h.2.1 r) → S 12 (h.2.1 r) j = 12 → ∀ q ∈ h.2.2.1 r j, q.2.2.2.2 < h.1 ∧ swQ A ra ba cap μ0 (D + 4) P q) (hz : ∀ j, j < fCt S (h.2.1 r) → (stG S (h.2.1 r) P (h.2.2.1 r) j).length < 100000000) :
    ∀ (m k : Nat) (μ : ab_M) (O : List Int), k + m = fCt S (h.2.1 r) → frU ra ba μ0 μ → cW μ ra ba cap O → cV (ab_run wc (D + 8) 542 10 [(2, 1), (2, A), (0, r), (2, (tyA b (h.2.1 r))), (0, k), (3, 0), (3, 0), (3, 0)] [] μ) μ ra ba cap (O ++ (stFs S (h.2.1 r) P (h.2.2.1 r) m k ++ stU (h.2.2.2 r))) := sorry
theorem c_SW {al : Nat → Bool} (hm : isM A cr ci cb) (bn : bnOK S) (ht : hTy S h) (cn : hCn S h) (hi : hI S h) (hn : hNm S h) (h1000 : h.1 < hole) (dn : hDn S h al) (ms0 : cMS μ0 A kS b S N) (cm0 : CM X S μ0 A cr ci cb h.1 h.2.1 h.2.2.1 h.2.2.2 ni nu us) (bd : ∀ f r, r < h.1 → al r = true → h.1 ≤ r + f → ((stR S h f r).length : Int) < 100000000) : ∀ (f D r : Nat) (μ : ab_M) (O : List Int), 4 * f + 8 ≤ D → r < h.1 → al r = true → h.1 ≤ r + f → frU ra ba μ0 μ → cW μ ra ba cap O → cV (ab_run wc D 542 0 [(2, 1), (2, A), (0, r), (3, 0), (3, 0), (3, 0), (3, 0), (3, 0)] [] μ) μ ra ba cap (O ++ stR S h f r) := sorry
end Sw
end
section
section Se
variable {S : SF} {N : NF} {h g : He} {t n j : Nat} {P P' : Nat → List Int}
def lead (j : Nat) : List We → List It
  | [] => []
  | x :: L => if x.1 = j then x.2 :: lead j L else []
noncomputable def pkJ (S : SF) (t j : Nat) (L : List It) : List Int := vnt (8 * S 10 t j + 2) ++ (vnt ((pkB (S 12 t j) L).length : Int) ++ pkB (S 12 t j) L)
noncomputable def stX (S : SF) (t : Nat) (P : Nat → List Int) (bf : Option Nat) (x : We) (L : List We) : List Int := if S 11 t x.1 = 2 ∧ (S 12 t x.1 ≤ 8 ∨ S 12 t x.1 = 11) then (if bf = some x.1 then [] else pkJ S t x.1 (lead x.1 (x :: L))) else stI S t x.1 P x.2
noncomputable def stW (S : SF) (t : Nat) (P : Nat → List Int) : Option Nat → List We → List Int
  | _, [] => []
  | bf, x :: L => stX S t P bf x L ++ stW S t P (some x.1) L
theorem lead_map {R : List We} (hR : ∀ x ∈ R, x.1 ≠ j) : ∀ L : List It, lead j (L.map (Prod.mk j) ++ R) = L := sorry
theorem stW_pk {R : List We} (pk : S 11 t j = 2 ∧ (S 12 t j ≤ 8 ∨ S 12 t j = 11)) : ∀ L : List It, stW S t P (some j) (L.map (Prod.mk j) ++ R) = stW S t P (some j) R := sorry
theorem stW_np {R : List We} (np : ¬ (S 11 t j = 2 ∧ (S 12 t j ≤ 8 ∨ S 12 t j = 11))) : ∀ (L : List It) (bf : Option Nat), stW S t P bf (L.map (Prod.mk j) ++ R) = L.flatMap (stI S t j P) ++ stW S t P (if L = [] then bf else some j) R := sorry
theorem stW_grp {v : Nat → List It} : ∀ (m k : Nat) (bf : Option Nat), (∀ j, bf = some j → j ∉ byN S t m k) → (byN S t m k).Nodup → stW S t P bf (grp v (byN S t m k)) = stFs S t P v m k := sorry
theorem stR_st {al : Nat → Bool} (bn : bnOK S) (dn : hDn S h al) (ht : hTy S h) : ∀ (c c' r : Nat), r < h.1 → al r = true → h.1 ≤ r + c → h.1 ≤ r + c' → stR S h c r = stR S h c' r := sorry
theorem itsE.sti {R : Nat → Nat → Prop} (hP : S 12 t j = 12 → ∀ x y, R x y → P x = P' y) : ∀ {L L' : List It}, itsE R (decide (S 12 t j = 12)) L L' → L.flatMap (stI S t j P) = L'.flatMap (stI S t j P') ∧ pkB (S 12 t j) L = pkB (S 12 t j) L' := sorry
theorem eqT.st (rg : ∀ r, r < h.1 → ∀ i, i < fCt S (h.2.1 r) → (S 20 (h.2.1 r) i).toNat < fCt S (h.2.1 r)) : ∀ {f r r' : Nat}, eqT S h g f r r' → stR S h f r = stR S g f r' := sorry
noncomputable def stM (S : SF) (h : He) : List Int := stR S h h.1 0
theorem stM_eq {al al' : Nat → Bool} (e : hEq S h g) (bn : bnOK S) (ht : hTy S h) (ht' : hTy S g) (dn : hDn S h al) (a0 : al 0 = true) (h0 : 0 < h.1) (dn' : hDn S g al') (a0' : al' 0 = true) (g0 : 0 < g.1) : stM S h = stM S g := sorry
end Se
end
section
section Tz
variable {μ μ' μ'' μ0 : ab_M} {d : Nat} {S : SF} {N : NF} {m s t j r uM pM : Nat} {h : He} {ε : Nat → Nat} {P : Nat → List Int}
theorem kW_n {k : Int} (h : k ≤ 8 ∨ k = 11) : kWire k ≠ 2 := sorry
theorem tw_valueSize {k v n : Int} {e : Nat} {l pc : List Int} (k1 : 0 ≤ k) (hl : k = 9 ∨ k = 10 → n = l.length ∧ l.length < 1000000000) (k2 : k ≤ 12) (hr : k = 12 → e < 73600 ∧ μ 7890 e = pc.length ∧ pc.length < 1000000000) : (ab_run wt (d + 3) 318 0 [(2, 7756), (0, k), (1, v), (3, 0), (0, n), (0, e), (3, 0)] [] μ) = some ((0, ((stV k v l pc).length : Int)), μ) := sorry
theorem tw_itemSize {i : Nat} {q : It} (ts : TS μ s S N) (t1 : (t : Int) < S 0 0 0) (t2 : S 2 t 0 = 1) (hj : j < fCt S t) (hi : i < 73600) (en : tEn S μ m s pM ε t i (j, q)) (pm : pM ≤ 9000) (hr : S 12 t j = 12 → μ 7890 i = (P q.2.2.2.2).length) (hz : (stI S t j P q).length < 100000000) :
    (ab_run wt (d + 4) 112 0 [(2, 7756), (0, i), (0, (fX s t j)), (3, 0)] [] μ) = some ((0, (((if S 11 t j = 3 then vnt ((stE S t j P q).length : Int) ++ stE S t j P q else stV (S 12 t j) q.2.2.1 q.2.2.2.1 (P q.2.2.2.2)).length : Nat) : Int)), if S 11 t j = 3 then ab_up μ 7756 177 (stE S t j P q).length else μ) := sorry
theorem tw_isPacked (ts : TS μ s S N) (t1 : (t : Int) < S 0 0 0) (t2 : S 2 t 0 = 1) (hj : j < fCt S t) : (ab_run wt (d + 2) 94 0 [(2, 7756), (0, (fX s t j))] [] μ) = some ((0, if S 11 t j = 2 ∧ (S 12 t j ≤ 8 ∨ S 12 t j = 11) then 1 else 0), μ) := sorry
theorem tw_keySize (ts : TS μ s S N) (t1 : (t : Int) < S 0 0 0) (t2 : S 2 t 0 = 1) (hj : j < fCt S t) : (ab_run wt (d + 2) 136 0 [(2, 7756), (0, (fX s t j))] [] μ) = some ((0, (vsz (8 * S 10 t j) : Int)), μ) := sorry
theorem tw_packed4 {e0 : Nat} (ts : TS μ s S N) (t1 : (t : Int) < S 0 0 0) (t2 : S 2 t 0 = 1) (hj : j < fCt S t) (num : S 12 t j ≤ 8 ∨ S 12 t j = 11) (h0 : e0 < 73600) (f0 : μ 7869 e0 = fX s t j) : ∀ (L : List We) (cL : List Nat) (x : Int) (a : Nat), tSg μ x cL (-2) → tEs S μ m s pM ε t cL L → (∀ i ∈ cL, i < 73600) → a + (pkB (S 12 t j) (lead j L)).length < 100000000 → (ab_run wt (d + 3) 195 4 [(2, 7756), (0, e0), (0, a), (0, x)] [] μ) = some ((0, ((a + (pkB (S 12 t j) (lead j L)).length : Nat) : Int)), μ) := sorry
end Tz
end
section
section Tm
variable {μ μ' μ'' μ0 : ab_M} {d : Nat} {S : SF} {N : NF} {m s t j r uM pM : Nat} {h : He} {ε : Nat → Nat} {P : Nat → List Int} {W : Nat → List We} {c uc : Nat → List Nat} {own : Nat → Nat}
def frPz (μ μ' : ab_M) : Prop := ∀ a i, (a ≠ 7756 ∨ i ≠ 177) → μ' a i = μ a i
def frJ (μ μ' : ab_M) : Prop := ∀ a i, a ≠ 7890 → (a ≠ 7756 ∨ i ≠ 177) → μ' a i = μ a i
theorem frPz.refl : frPz μ μ := sorry
theorem frPz.trans (f : frPz μ μ') (g : frPz μ' μ'') : frPz μ μ'' := sorry
theorem frJ.refl : frJ μ μ := sorry
theorem frJ.trans (f : frJ μ μ') (g : frJ μ' μ'') : frJ μ μ'' := sorry
theorem frPz.jj (f : frPz μ μ') : frJ μ μ' := sorry
theorem TS.jj (c : TS μ s S N) (f : frJ μ μ') : TS μ' s S N := sorry
theorem tEn.jj {i : Nat} {x : We} (e : tEn S μ m s pM ε t i x) (f : frJ μ μ') : tEn S μ' m s pM ε t i x := sorry
theorem tEs.jj (f : frJ μ μ') : ∀ {cL : List Nat} {L : List We}, tEs S μ m s pM ε t cL L → tEs S μ' m s pM ε t cL L := sorry
theorem tSg.jj (f : frJ μ μ') : ∀ {cL : List Nat} {x y : Int}, tSg μ x cL y → tSg μ' x cL y := sorry
def bfF (S : SF) (s t : Nat) (x : Int) : Option Nat → Prop
  | none => x = -2
  | some j => x = fX s t j
theorem tw_ms75 {x2 : Nat} (ts : TS μ s S N) (t1 : (t : Int) < S 0 0 0) (t2 : S 2 t 0 = 1) (pm : pM ≤ 9000) (h2 : x2 < 73600) :
    ∀ (L : List We) (cL : List Nat) (x x4 : Int) (bf : Option Nat) (a : Nat) (μ1 : ab_M), frPz μ μ1 → tSg μ x cL (-2) → tEs S μ m s pM ε t cL L → (∀ i ∈ cL, i < 73600) → (∀ y ∈ L, S 12 t y.1 = 12 → μ 7890 (ε y.2.2.2.2.2) = (P y.2.2.2.2.2).length) → bfF S s t x4 bf → a + (stW S t P bf L).length < 100000000 →
    ∃ μ', (ab_run wt (d + 5) 164 75 [(2, 7756), (0, m), (0, x2), (0, a), (0, x4), (0, x), (3, 0), (3, 0)] [] μ1) = (ab_run wt (d + 5) 164 178 [(2, 7756), (0, m), (0, x2), (0, (((a + (stW S t P bf L).length : Nat) : Int))), (3, 0), (0, (μ 7872 x2)), (3, 0), (3, 0)] [] μ') ∧ frPz μ μ' := sorry
theorem tw_ms178 {x2 : Nat} (h2 : x2 < 73600) : ∀ (L : List Un) (cL : List Nat) (x : Int) (a : Nat), tSg μ x cL (-2) → tUs μ m pM cL L → (∀ i ∈ cL, i < 73600) → (∀ u ∈ L, unOK u) → a + (stU L).length < 1000000000 → (ab_run wt (d + 2) 164 178 [(2, 7756), (0, m), (0, x2), (0, a), (3, 0), (0, x), (3, 0), (3, 0)] [] μ) = (ab_run wt (d + 2) 164 15 [(2, 7756), (0, m), (0, (w32 ((x2 : Int) + -1))), (3, 0), (3, 0), (3, 0), (3, 0), (3, 0)] [] (ab_up μ 7890 x2 ((a + (stU L).length : Nat) : Int))) := sorry
end Tm
end
section
section Tm
variable {μ μ' μ'' μ0 : ab_M} {d : Nat} {S : SF} {N : NF} {m s t r uM pM : Nat} {h : He} {ε : Nat → Nat} {W : Nat → List We} {c uc : Nat → List Nat} {own : Nat → Nat}
theorem tUs.jj (f : frJ μ μ') : ∀ {cL : List Nat} {L : List Un}, tUs μ m pM cL L → tUs μ' m pM cL L := sorry
theorem tEs_at {i : Nat} : ∀ {cL : List Nat} {L : List We}, tEs S μ m s pM ε t cL L → i ∈ cL → ∃ x ∈ L, tEn S μ m s pM ε t i x := sorry
theorem tUs_at {i : Nat} : ∀ {cL : List Nat} {L : List Un}, tUs μ m pM cL L → i ∈ cL → μ 7869 i = -3 := sorry
theorem stQ_eq (H : tH S μ m s h.1 (fun _ => true) h.2.1 h.2.2.1 h.2.2.2 ε W c uc own uM pM) (bn : bnOK S) (dn : hDn S h (fun _ => true)) (hr : r < h.1) : stR S h h.1 r = stW S (h.2.1 r) (stR S h h.1) none (W r) ++ stU (h.2.2.2 r) := sorry
theorem fX_inj2 {s t j t' j' : Nat} (h1 : j < 24) (h2 : j' < 24) (h : fX s t j = fX s t' j') : t = t' ∧ j = j' := sorry
theorem tw_ms15 (H : tH S μ0 m s h.1 (fun _ => true) h.2.1 h.2.2.1 h.2.2.2 ε W c uc own uM pM) (fu : tFu m uM h.1 ε c uc) (ts : TS μ0 s S N) (bn : bnOK S) (dn : hDn S h (fun _ => true)) (hn : hNm S h) (bd : ∀ r, r < h.1 → (stR S h h.1 r).length < 100000000) : ∀ (k : Nat) (μ : ab_M), k ≤ uM → frJ μ0 μ → (∀ r, r < h.1 → 4600 * m + k ≤ ε r → μ 7890 (ε r) = (stR S h h.1 r).length) → R3 (ab_run wt (d + 5) 164 15 [(2, 7756), (0, m), (0, (4600 * (m : Int) + k - 1)), (3, 0), (3, 0), (3, 0), (3, 0), (3, 0)] [] μ) (fun μ' => frJ μ0 μ' ∧ ∀ r, r < h.1 → μ' 7890 (ε r) = (stR S h h.1 r).length) := sorry
theorem tw_measure (H : tH S μ m s h.1 (fun _ => true) h.2.1 h.2.2.1 h.2.2.2 ε W c uc own uM pM) (fu : tFu m uM h.1 ε c uc) (ts : TS μ s S N) (bn : bnOK S) (dn : hDn S h (fun _ => true)) (hn : hNm S h) (bd : ∀ r, r < h.1 → (stR S h h.1 r).length < 100000000) : R3 (ab_run wt (d + 5) 164 0 [(2, 7756), (0, m), (3, 0), (3, 0), (3, 0), (3, 0), (3, 0), (3, 0)] [] μ) (fun μ' => frJ μ μ' ∧ ∀ r, r < h.1 → μ' 7890 (ε r) = (stR S h h.1 r).length) := sorry
end Tm
end
section
section Ts
variable {μ μ' μ'' μ0 μ1 : ab_M} {d : Nat} {O : List Int} {S : SF} {N : NF} {m s t j r uM pM : Nat} {h : He} {ε : Nat → Nat} {W : Nat → List We} {c uc : Nat → List Nat} {own : Nat → Nat} {P : Nat → List Int}
def frSt (μ0 μ1 μ : ab_M) : Prop := (∀ a i, a ≠ 7887 → a ≠ 7888 → a ≠ 7889 → a ≠ 7890 → (a ≠ 7756 ∨ i ≠ 172 ∧ i ≠ 175 ∧ i ≠ 177) → μ a i = μ0 a i) ∧ ∀ i, μ 7890 i = μ1 7890 i
def frM3 (μ μ' : ab_M) : Prop := ∀ a i, a ≠ 7887 → (a ≠ 7756 ∨ i ≠ 172 ∧ i ≠ 177) → μ' a i = μ a i
theorem frM3.trans (f : frM3 μ μ') (g : frM3 μ' μ'') : frM3 μ μ'' := sorry
theorem frM2.m3 (f : frM2 μ μ') : frM3 μ μ' := sorry
theorem frSt.up (f : frSt μ0 μ1 μ) (g : frM3 μ μ') : frSt μ0 μ1 μ' := sorry
theorem TS.ss (c : TS μ0 s S N) (f : frSt μ0 μ1 μ) : TS μ s S N := sorry
theorem tEn.ss {i : Nat} {x : We} (e : tEn S μ0 m s pM ε t i x) (f : frSt μ0 μ1 μ) : tEn S μ m s pM ε t i x := sorry
theorem tEs.ss (f : frSt μ0 μ1 μ) : ∀ {cL : List Nat} {L : List We}, tEs S μ0 m s pM ε t cL L → tEs S μ m s pM ε t cL L := sorry
theorem tSg.ss (f : frSt μ0 μ1 μ) : ∀ {cL : List Nat} {x y : Int}, tSg μ0 x cL y → tSg μ x cL y := sorry
theorem tw_pb3 {fi n : Nat} (hm : m < 16) (hf : fi + n ≤ 9000) : ∀ (l : List Int) (k : Nat) (μ : ab_M) (O : List Int), k + l.length = n → tBy μ 7879 (9000 * m + fi + k) l → byt l → tOu μ O → O.length + l.length < 2147483000 → tE (ab_run wt (d + 2) 222 3 [(2, 7756), (0, m), (0, fi), (0, n), (0, k)] [] μ) μ (O ++ l) := sorry
theorem tw_putBytes {fi : Nat} {l : List Int} (hm : m < 16) (hf : fi + l.length ≤ 9000) (hb : tBy μ 7879 (9000 * m + fi) l) (by' : byt l) (c : tOu μ O) (ln : O.length + l.length < 2147483000) : tE (ab_run wt (d + 2) 222 0 [(2, 7756), (0, m), (0, fi), (0, (l.length)), (3, 0)] [] μ) μ (O ++ l) := sorry
theorem tw_putValue {k v x5 x6 : Int} {fi : Nat} {l : List Int} (hm : m < 16) (k1 : 0 ≤ k) (k12 : k ≠ 12) (k2 : k ≤ 12) (hv : k ≤ 8 ∨ k = 11 → lng v) (hl : k = 9 ∨ k = 10 → x5 = fi ∧ x6 = l.length ∧ fi + l.length ≤ 9000 ∧ tBy μ 7879 (9000 * m + fi) l ∧ byt l) (c : tOu μ O) (ln : O.length + l.length < 2147480000) : tE (ab_run wt (d + 4) 240 0 [(2, 7756), (0, m), (0, k), (1, v), (3, 0), (0, x5), (0, x6)] [] μ) μ (O ++ stV k v l []) := sorry
theorem tw_ws86 {G : Nat} (hm : m < 16) (pm : pM ≤ 9000) (g16 : G < 16) : ∀ (L : List Un) (cL : List Nat) (x : Int) (μ : ab_M) (O : List Int), tSg μ x cL (-2) → tUs μ m pM cL L → (∀ i ∈ cL, i < 73600) → (∀ u ∈ L, unOK u) → tOu μ O → μ 7756 175 = ((G + 1 : Nat) : Int) → O.length + (stU L).length < 2147470000 → ∃ μ', (ab_run wt (d + 5) 338 86 [(2, 7756), (0, m), (3, 0), (3, 0), (0, x), (3, 0)] [] μ) = (ab_run wt (d + 5) 338 45 [(2, 7756), (0, m), (3, 0), (3, 0), (3, 0), (3, 0)] [] (ab_up μ' 7756 175 G)) ∧ tOu μ' (O ++ stU L) ∧ frM2 μ μ' := sorry
theorem tw_ws225 {G : Nat} (ts : TS μ0 s S N) (t1 : (t : Int) < S 0 0 0) (t2 : S 2 t 0 = 1) (hj : j < fCt S t) (g16 : G < 16) : ∀ (L : List We) (cL : List Nat) (x : Int) (μ : ab_M) (O : List Int), tSg μ0 x cL (-2) → tEs S μ0 m s pM ε t cL L → (∀ i ∈ cL, i < 73600) → (∀ y ∈ L, lng y.2.2.2.1) → frSt μ0 μ1 μ → tOu μ O → μ 7756 175 = ((G + 1 : Nat) : Int) → O.length + (pkB (S 12 t j) (lead j L)).length < 2147470000 →
    ∃ R cR x' μ', (ab_run wt (d + 4) 338 225 [(2, 7756), (0, m), (3, 0), (3, 0), (0, (fX s t j)), (0, x)] [] μ) = (ab_run wt (d + 4) 338 45 [(2, 7756), (0, m), (3, 0), (3, 0), (3, 0), (3, 0)] [] (ab_up μ' 7888 G x')) ∧ tOu μ' (O ++ pkB (S 12 t j) (lead j L)) ∧ frM2 μ μ' ∧ tSg μ0 x' cR (-2) ∧ tEs S μ0 m s pM ε t cR R ∧ L = (lead j L).map (Prod.mk j) ++ R ∧ (∀ y R', R = y :: R' → y.1 ≠ j) ∧ (∀ i ∈ cR, i ∈ cL) := sorry
end Ts
end
section
section Ts
variable {μ μ' μ'' μ0 μ1 : ab_M} {d : Nat} {O : List Int} {S : SF} {N : NF} {m s t j r uM pM : Nat} {h : He} {ε : Nat → Nat} {P : Nat → List Int}
theorem TS.m3 (c : TS μ s S N) (f : frM3 μ μ') : TS μ' s S N := sorry
theorem tEn.m3 {i : Nat} {x : We} (e : tEn S μ m s pM ε t i x) (f : frM3 μ μ') : tEn S μ' m s pM ε t i x := sorry
noncomputable def stK (S : SF) (t j : Nat) (P : Nat → List Int) (q : It) : List Int := vnt (8 * S 10 t j + (if S 11 t j = 3 then 2 else kWire (S 12 t j))) ++ (if S 11 t j = 3 then vnt ((stE S t j P q).length : Int) ++ (vnt (8 + kWire (S 14 t j)) ++ (stV (S 14 t j) q.1 q.2.1 [] ++ vnt (16 + kWire (S 12 t j)))) else [])
theorem stK_I {q : It} : stI S t j P q = stK S t j P q ++ stV (S 12 t j) q.2.2.1 q.2.2.2.1 (P q.2.2.2.2) := sorry
theorem tw_ws327 {i : Nat} {q : It} {s0 s1 : Int} (ts : TS μ s S N) (m16 : m < 16) (t1 : (t : Int) < S 0 0 0) (t2 : S 2 t 0 = 1) (hj : j < fCt S t) (hi : i < 73600) (en : tEn S μ m s pM ε t i (j, q)) (pm : pM ≤ 9000) (kl : lng q.1) (kb : byt q.2.1) (hr : S 12 t j = 12 → μ 7890 i = (P q.2.2.2.2).length) (hz : (stI S t j P q).length < 100000000) (e1 : s1 = 8 * S 10 t j) (e0 : s0 = if S 11 t j = 3 then 2 else kWire (S 12 t j)) (c : tOu μ O) (ln : O.length < 2147350000) :
    ∃ μ', (ab_run wt (d + 6) 338 327 [(2, 7756), (0, m), (3, 0), (0, i), (0, (fX s t j)), (3, 0)] [(0, s0), (1, s1), (2, 7756)] μ) = (ab_run wt (d + 6) 338 431 [(2, 7756), (0, m), (3, 0), (0, i), (0, (fX s t j)), (3, 0)] [] μ') ∧ tOu μ' (O ++ stK S t j P q) ∧ frM3 μ μ' := sorry
def TSs (d m : Nat) (μ0 μ1 : ab_M) (ε : Nat → Nat) (out : List Int) (r G : Nat) : Prop := ∀ (μ : ab_M) (O : List Int), frSt μ0 μ1 μ → tOu μ O → μ 7756 175 = ((G + 1 : Nat) : Int) → μ 7888 G = μ0 7871 (ε r) → μ 7889 G = ε r → O.length + out.length < 2147300000 → ∃ μ', (ab_run wt (d + 6) 338 45 [(2, 7756), (0, m), (3, 0), (3, 0), (3, 0), (3, 0)] [] μ) = (ab_run wt (d + 6) 338 45 [(2, 7756), (0, m), (3, 0), (3, 0), (3, 0), (3, 0)] [] μ') ∧ tOu μ' (O ++ out) ∧ μ' 7756 175 = G ∧ frSt μ0 μ1 μ' ∧ ∀ i, i < G → μ' 7888 i = μ 7888 i ∧ μ' 7889 i = μ 7889 i
end Ts
end
section
section Ts
variable {μ μ' μ'' μ0 μ1 : ab_M} {d : Nat} {O : List Int} {S : SF} {N : NF} {m s t j r uM pM : Nat} {h : He} {ε : Nat → Nat} {W : Nat → List We} {c uc : Nat → List Nat} {own : Nat → Nat} {P : Nat → List Int}
theorem frSt.go {G : Nat} {x : Int} (f : frSt μ0 μ1 μ) : frSt μ0 μ1 (ab_up μ 7888 G x) := sorry
theorem frSt.gg {x : Int} (f : frSt μ0 μ1 μ) : frSt μ0 μ1 (ab_up μ 7756 175 x) := sorry
theorem frSt.gi {G : Nat} {x : Int} (f : frSt μ0 μ1 μ) : frSt μ0 μ1 (ab_up μ 7889 G x) := sorry
theorem tOu.go {G : Nat} {x : Int} (c : tOu μ O) : tOu (ab_up μ 7888 G x) O := sorry
theorem tOu.gg {x : Int} (c : tOu μ O) : tOu (ab_up μ 7756 175 x) O := sorry
theorem tOu.gi {G : Nat} {x : Int} (c : tOu μ O) : tOu (ab_up μ 7889 G x) O := sorry
theorem tw_wsl {G : Nat} (H : tH S μ0 m s h.1 (fun _ => true) h.2.1 h.2.2.1 h.2.2.2 ε W c uc own uM pM) (ts : TS μ0 s S N) (hr : r < h.1) (g12 : G + 1 ≤ 12) (hi : hI S h) (hn : hNm S h) (wd : ∀ r, r < h.1 → μ1 7890 (ε r) = (P r).length) (hc : ∀ x ∈ W r, S 12 (h.2.1 r) x.1 = 12 → TSs d m μ0 μ1 ε (P x.2.2.2.2.2) x.2.2.2.2.2 (G + 1)) :
    ∀ (n : Nat) (L : List We) (cL : List Nat) (x : Int) (bf : Option Nat) (μ : ab_M) (O : List Int), L.length ≤ n → tSg μ0 x cL (-2) → tEs S μ0 m s pM ε (h.2.1 r) cL L → (∀ i ∈ cL, i < 73600) → (∀ y ∈ L, y ∈ W r) → (∀ y L', L = y :: L' → (S 11 (h.2.1 r) y.1 = 2 ∧ (S 12 (h.2.1 r) y.1 ≤ 8 ∨ S 12 (h.2.1 r) y.1 = 11)) → bf ≠ some y.1) → frSt μ0 μ1 μ → tOu μ O → μ 7756 175 = ((G + 1 : Nat) : Int) → μ 7888 G = x → μ 7889 G = ε r → (stW S (h.2.1 r) P bf L).length < 100000000 → O.length + (stW S (h.2.1 r) P bf L ++ stU (h.2.2.2 r)).length < 2147300000 →
    ∃ μ', (ab_run wt (d + 6) 338 45 [(2, 7756), (0, m), (3, 0), (3, 0), (3, 0), (3, 0)] [] μ) = (ab_run wt (d + 6) 338 45 [(2, 7756), (0, m), (3, 0), (3, 0), (3, 0), (3, 0)] [] μ') ∧ tOu μ' (O ++ (stW S (h.2.1 r) P bf L ++ stU (h.2.2.2 r))) ∧ μ' 7756 175 = G ∧ frSt μ0 μ1 μ' ∧ ∀ i, i < G → μ' 7888 i = μ 7888 i ∧ μ' 7889 i = μ 7889 i := sorry
end Ts
end
section
section Tq
variable {μ μ' μ'' μ0 μ1 : ab_M} {d : Nat} {O : List Int} {S : SF} {N : NF} {m s t j r uM pM bs : Nat} {h : He} {ε : Nat → Nat} {W : Nat → List We} {c uc : Nat → List Nat} {own : Nat → Nat}
theorem tw_TSs (H : tH S μ0 m s h.1 (fun _ => true) h.2.1 h.2.2.1 h.2.2.2 ε W c uc own uM pM) (ts : TS μ0 s S N) (bn : bnOK S) (dn : hDn S h (fun _ => true)) (hi : hI S h) (hn : hNm S h) (wd : ∀ r, r < h.1 → μ1 7890 (ε r) = (stR S h h.1 r).length) (bd : ∀ r, r < h.1 → (stR S h h.1 r).length < 100000000) : ∀ (f r G : Nat), r < h.1 → h.1 ≤ r + f → dpL S h f r (G + 1) → TSs d m μ0 μ1 ε (stR S h h.1 r) r G := sorry
def frWs (μ μ' : ab_M) : Prop := ∀ a i, a ≠ 7887 → a ≠ 7888 → a ≠ 7889 → a ≠ 7890 → (a ≠ 7756 ∨ i ≠ 172 ∧ i ≠ 175 ∧ i ≠ 177) → μ' a i = μ a i
theorem stR_ch (bn : bnOK S) (dn : hDn S h (fun _ => true)) (ht : hTy S h) {q : It} (hr : r < h.1) (hj : j < fCt S (h.2.1 r)) (z : S 12 (h.2.1 r) j = 12) (hq : q ∈ h.2.2.1 r j) : (stR S h h.1 q.2.2.2.2).length ≤ (stR S h h.1 r).length := sorry
theorem stR_rch (bn : bnOK S) (dn : hDn S h (fun _ => true)) (ht : hTy S h) : ∀ (c r x : Nat), rch S h c r x → r < h.1 → (stR S h h.1 x).length ≤ (stR S h h.1 r).length := sorry
noncomputable def reB (S : SF) (h : He) (x : Nat) : Bool := @decide (∃ c, rch S h c 0 x) (Classical.propDecidable _)
theorem reB_is {x : Nat} : reB S h x = true ↔ ∃ c, rch S h c 0 x := sorry
theorem reB_0 : reB S h 0 = true := sorry
theorem reB_dn (dn : hDn S h (fun _ => true)) : hDn S h (reB S h) := sorry
theorem stM_len (ok : scOK S N) (bn : bnOK S) (w : hWell S h) (dn : hDn S h (fun _ => true)) (hv : vlS S h ≤ 400) (hb : btS S h ≤ 2000) : (stM S h).length ≤ 10400 := sorry
theorem tw_writeStream (hm : m < 12) (mt : mT S N μ m s h) (bn : bnOK S) : R3 (ab_run wt (d + 8) 338 0 [(2, 7756), (0, m), (3, 0), (3, 0), (3, 0), (3, 0)] [] μ) (fun μ' => tOu μ' (stM S h) ∧ frWs μ μ') ∧ (stM S h).length ≤ 10400 := sorry
theorem tw_encode0 {row : Nat} (hm : m < 12) (hr : row < 8) (bn : bnOK S) (fl : μ 7862 m = 0 ∨ μ 7862 m = 1 ∧ mT S N μ m s h) :
    R0 (ab_run wt (d + 10) 44 0 [(2, 7756), (0, m), (0, 0), (0, row)] [] μ) (fun v μ' => if μ 7862 m = 0 then v = -2 ∧ μ' = μ else (∀ a i, a ≠ 7887 → a ≠ 7888 → a ≠ 7889 → a ≠ 7890 → (a ≠ 7756 ∨ i ≠ 172 ∧ i ≠ 175 ∧ i ≠ 177) → (a ≠ 7759 ∨ i ≠ row) → (a ≠ 7758 ∨ i < 4000 * row ∨ 4000 * row + 4000 ≤ i) → μ' a i = μ a i) ∧ if 4000 < (stM S h).length then v = -3 ∧ (∀ a i, a = 7759 ∨ a = 7758 → μ' a i = μ a i) else v = (stM S h).length ∧ μ' 7759 row = (stM S h).length ∧ tBy μ' 7758 (4000 * row) (stM S h)) := sorry
end Tq
end
section
section Ce
variable {μ μ' μ'' μ0 : ab_M} {d D ra ba cap : Nat} {O : List Int} {S : SF} {N : NF} {m s bs : Nat} {h : He}
theorem c_write0 (hD : 2000 ≤ D) (o : isO ra ba cap) (hm : m < 12) (bn : bnOK S) (mc : mC S N μ m s bs h) : ∃ μ', (ab_run wc ((D + 1)) 569 0 [(2, 1), (2, (((6314 + 27 * m : Nat) : Int))), (0, 0), (2, ra), (3, 0), (3, 0)] [] μ) = some ((0, if cap < (stM S h).length then 0 else 1), μ') ∧ μ' 1 29 = 1 ∧ ((stM S h).length ≤ cap → cRow μ' ra ba cap (stM S h)) ∧ ∀ a i, (a ≠ ra ∨ i ≠ 1) → a ≠ ba → (a ≠ 1 ∨ i ≠ 22 ∧ i ≠ 29) → μ' a i = μ a i := sorry
theorem c_encodeG {e row : Nat} {fm v : Int} {L : List Int} {μ1 : ab_M} (hm : m < 12) (hr : row < 8) (f0 : 0 ≤ fm) (f3 : fm < 3) (z : μ (6314 + 27 * m) 0 = 1) (wr : (ab_run wc (e + 4) 569 0 [(2, 1), (2, (((6314 + 27 * m : Nat) : Int))), (0, fm), (2, 1310), (3, 0), (3, 0)] [] μ) = some ((0, v), μ1)) (ok : μ1 1 29 ≠ 0 → v ≠ 0 → cRow μ1 1310 1311 4000 L ∧ L.length ≤ 4000) :
    R0 (ab_run wc (e + 5) 396 0 [(2, 1), (0, m), (0, fm), (0, row), (3, 0)] [] μ) (fun x μ' => if μ1 1 29 = 0 then x = -2 ∧ μ' = μ1 else if v = 0 then x = -3 ∧ μ' = μ1 else x = L.length ∧ cRow μ' (rwA row) (rbA row) 4000 L ∧ ∀ a i, (a ≠ rwA row ∨ i ≠ 1) → a ≠ rbA row → μ' a i = μ1 a i) := sorry
theorem c_encode0 {row : Nat} (hD : 2000 ≤ D) (hm : m < 12) (hr : row < 8) (bn : bnOK S) (z : μ (6314 + 27 * m) 0 = 1) (mc : mC S N μ m s bs h) :
    R0 (ab_run wc ((D + 2)) 396 0 [(2, 1), (0, m), (0, 0), (0, row), (3, 0)] [] μ) (fun v μ' => (∀ a i, (a ≠ 1310 ∨ i ≠ 1) → a ≠ 1311 → (a ≠ 1 ∨ i ≠ 22 ∧ i ≠ 29) → (a ≠ rwA row ∨ i ≠ 1) → a ≠ rbA row → μ' a i = μ a i) ∧ if 4000 < (stM S h).length then v = -3 ∧ (∀ a i, 1337 < a → a < 1354 → μ' a i = μ a i) else v = (stM S h).length ∧ cRow μ' (rwA row) (rbA row) 4000 (stM S h)) := sorry
end Ce
end
section
section Rn
variable {μ μ' μ'' : ab_M} {d a L n : Nat} {T : Nat → Int}
def cIn (μ : ab_M) (a L n : Nat) (T : Nat → Int) : Prop := μ 1 25 = a ∧ wc_ar a = (4, L) ∧ n ≤ L ∧ (∀ k, k < n → 0 ≤ T k ∧ T k < 256 ∧ μ a k = sg (T k)) ∧ a ≠ 1 ∧ a ≠ 2 ∧ n < 60000
def tIn (μ : ab_M) (n : Nat) (T : Nat → Int) : Prop := n < 60000 ∧ ∀ k, k < n → 0 ≤ T k ∧ T k < 256 ∧ μ 7891 k = T k
def vrF (T : Nat → Int) (e first : Nat) : Nat → Nat → Nat → Nat → Flt ⊕ (Nat × Nat)
  | 0, _, _, _ => .inl (2, (first : Int))
  | f + 1, k, p, acc => if p = e then .inl (1, (e : Int)) else if k = 9 ∧ 1 < T p then .inl (2, (first : Int)) else if T p < 128 then .inr (acc + (T p % 128).toNat * 2 ^ (7 * k), p + 1) else vrF T e first f (k + 1) (p + 1) (acc + (T p % 128).toNat * 2 ^ (7 * k))
def vrd (T : Nat → Int) (e p : Nat) : Flt ⊕ (Nat × Nat) := vrF T e p 10 0 p 0
def frG (μ μ' : ab_M) : Prop := ∀ a i, (a ≠ 1 ∨ i ≠ 26 ∧ i ≠ 27 ∧ i ≠ 28) → a ≠ 2 → μ' a i = μ a i
theorem frG.refl : frG μ μ := sorry
theorem frG.trans (f : frG μ μ') (g : frG μ' μ'') : frG μ μ'' := sorry
theorem frG.at {x : Int} : frG μ (ab_up μ 1 26 x) := sorry
def RfG (run : ab_R) (μ : ab_M) (f : Flt) : Prop := RT run (fun μ' => μ' 2 6 = f.1 ∧ μ' 2 7 = f.2 ∧ frG μ μ')
theorem RfG.to {run : ab_R} {f : Flt} (g : RfG run μ' f) (q : frG μ μ') : RfG run μ f := sorry
theorem c_refuseG {x y : Int} : RfG (ab_cal (ab_run wc (d + 1) 497 0 [(2, 1), (0, x), (0, y)] [] μ) 2 (fun r4 μ4 => some ((4, r4), μ4)) (fun r4 μ4 => (cond (wc_ob (r4).toNat 2) (some ((4, r4), μ4)) none))) μ (x, y) := sorry
theorem or_acc {acc x K : Nat} (hK : K < 64) (h1 : acc < 2 ^ K) (h2 : x * 2 ^ K < 18446744073709551616) : or64 (w64 (acc : Int)) (shl64 (x : Int) (K : Int)) = w64 ((acc + x * 2 ^ K : Nat) : Int) := sorry
theorem vrF_ok : ∀ (f k p acc : Nat) {e first u p' : Nat}, vrF T e first f k p acc = .inr (u, p') → p ≤ e → f + k = 10 → acc < 2 ^ (7 * k) → (∀ k, k < e → 0 ≤ T k ∧ T k < 256) → u < 18446744073709551616 ∧ p < p' ∧ p' ≤ e := sorry
theorem vrd_ok {e p u p' : Nat} (h : vrd T e p = .inr (u, p')) (hp : p ≤ e) (hT : ∀ k, k < e → 0 ≤ T k ∧ T k < 256) : u < 18446744073709551616 ∧ p < p' ∧ p' ≤ e := sorry
def cRd (tag : Nat) (run : ab_R) (μ : ab_M) : Flt ⊕ (Int × Nat) → Prop
  | .inl f => RfG run μ f
  | .inr (v, p) => run = some ((tag, v), ab_up μ 1 26 p)
noncomputable def uLg : Flt ⊕ (Nat × Nat) → Flt ⊕ (Int × Nat)
  | .inl f => .inl f
  | .inr (u, p) => .inr (w64 (u : Int), p)
theorem cIn.at {x : Int} (c : cIn μ a L n T) : cIn (ab_up μ 1 26 x) a L n T := sorry
theorem sg_255 {x : Int} (h : 0 ≤ x) (h2 : x < 256) : and32 (sg x) 255 = x := sorry
theorem and32_127 {x : Int} : and32 x 127 = x % 128 := sorry
theorem c_vr10 {e first : Nat} (he : e ≤ n) : ∀ (f k p acc : Nat) (μ : ab_M), f + 1 + k = 10 → p ≤ e → acc < 2 ^ (7 * k) → cIn μ a L n T → μ 1 26 = p → cRd 1 (ab_run wc (d + 2) 563 10 [(2, 1), (0, e), (0, first), (1, (w64 (acc : Int))), (3, 0), (0, (((7 * k : Nat) : Int))), (3, 0)] [] μ) μ (uLg (vrF T e first (f + 1) k p acc)) := sorry
theorem c_varint {e p : Nat} (he : e ≤ n) (hp : p ≤ e) (c : cIn μ a L n T) (hat : μ 1 26 = p) : cRd 1 (ab_run wc (d + 2) 563 0 [(2, 1), (0, e), (3, 0), (3, 0), (3, 0), (3, 0), (3, 0)] [] μ) μ (uLg (vrd T e p)) := sorry
def frYr (μ μ' : ab_M) : Prop := ∀ a i, (a ≠ 7756 ∨ i ≠ 180 ∧ i ≠ 181 ∧ i ≠ 17 ∧ i ≠ 18) → μ' a i = μ a i
theorem frYr.refl : frYr μ μ := sorry
theorem frYr.trans (f : frYr μ μ') (g : frYr μ' μ'') : frYr μ μ'' := sorry
def FtY (run : ab_R) (μ : ab_M) (f : Flt) : Prop := R0 run (fun v μ' => v = 0 ∧ μ' 7756 17 = f.1 ∧ μ' 7756 18 = f.2 ∧ frYr μ μ')
theorem FtY.to {run : ab_R} {f : Flt} (g : FtY run μ' f) (q : frYr μ μ') : FtY run μ f := sorry
theorem tw_wrongY {x y : Int} (h : μ 7756 17 = 0) : FtY (ab_cal (ab_run wt (d + 1) 340 0 [(2, 7756), (0, x), (0, y)] [] μ) 0 (fun r1 μ1 => some ((4, r1), μ1)) (fun r1 μ1 => if r1 = 0 ∨ r1 = 1 then some ((0, r1), μ1) else none)) μ (x, y) := sorry
def tRd (run : ab_R) (μ : ab_M) : Flt ⊕ (Int × Nat) → Prop
  | .inl f => FtY run μ f
  | .inr (v, p) => run = some ((0, 1), ab_up (ab_up μ 7756 180 p) 7756 181 v)
theorem tIn.to (c : tIn μ n T) (f : frYr μ μ') : tIn μ' n T := sorry
theorem pg_up {x y x' y' : Int} : ab_up (ab_up (ab_up (ab_up μ 7756 180 x) 7756 181 y) 7756 180 x') 7756 181 y' = ab_up (ab_up μ 7756 180 x') 7756 181 y' := sorry
theorem frYr.pg {x y : Int} : frYr μ (ab_up (ab_up μ 7756 180 x) 7756 181 y) := sorry
theorem tw_vr12 {e first : Nat} (he : e ≤ n) : ∀ (f k p acc : Nat) (μ : ab_M), f + 1 + k = 10 → p ≤ e → acc < 2 ^ (7 * k) → tIn μ n T → μ 7756 180 = p → μ 7756 181 = w64 (acc : Int) → μ 7756 17 = 0 → tRd (ab_run wt (d + 2) 319 12 [(2, 7756), (0, e), (0, first), (0, k), (3, 0)] [] μ) μ (uLg (vrF T e first (f + 1) k p acc)) := sorry
theorem tw_varint {e p : Nat} (he : e ≤ n) (hp : p ≤ e) (c : tIn μ n T) (hat : μ 7756 180 = p) (hw : μ 7756 17 = 0) : tRd (ab_run wt (d + 2) 319 0 [(2, 7756), (0, e), (3, 0), (3, 0), (3, 0)] [] μ) μ (uLg (vrd T e p)) := sorry
end Rn
end
section
section Rn
variable {μ μ' μ'' : ab_M} {d a L n e p : Nat} {T : Nat → Int}
def fxS (T : Nat → Int) (p : Nat) : Nat → Nat
  | 0 => 0
  | i + 1 => fxS T p i + (T (p + i)).toNat * 2 ^ (8 * i)
def fxd (T : Nat → Int) (w e p : Nat) : Flt ⊕ (Nat × Nat) := if e < p + w then .inl (1, (e : Int)) else .inr (fxS T p w, p + w)
theorem fxS_lt (hT : ∀ k, k < n → 0 ≤ T k ∧ T k < 256) : ∀ i, p + i ≤ n → fxS T p i < 2 ^ (8 * i) := sorry
theorem up_id {a i : Nat} {x : Int} (h : μ a i = x) : ab_up μ a i x = μ := sorry
theorem c_fx22 {w : Nat} (hw : w ≤ 8) (hp : p + w ≤ n) : ∀ (m i : Nat) (μ : ab_M), i + m = w → cIn μ a L n T → μ 1 26 = ((p + i : Nat) : Int) → (ab_run wc (d + 1) 400 22 [(2, 1), (0, w), (3, 0), (1, (w64 (fxS T p i : Int))), (3, 0), (0, i)] [] μ) = some ((1, w64 (fxS T p w : Int)), ab_up μ 1 26 ((p + w : Nat) : Int)) := sorry
theorem c_fixed {w : Nat} (hw : w ≤ 8) (he : e ≤ n) (hp : p ≤ e) (c : cIn μ a L n T) (hat : μ 1 26 = p) : cRd 1 (ab_run wc (d + 2) 400 0 [(2, 1), (0, w), (0, e), (3, 0), (3, 0), (3, 0)] [] μ) μ (uLg (fxd T w e p)) := sorry
theorem tw_fx24 {w : Nat} (hw : w ≤ 8) (hp : p + w ≤ n) : ∀ (m i : Nat) (μ : ab_M), i + m = w → tIn μ n T → μ 7756 180 = p → μ 7756 181 = w64 (fxS T p i : Int) → (ab_run wt (d + 1) 69 24 [(2, 7756), (0, w), (3, 0), (0, i)] [] μ) = some ((0, 1), ab_up (ab_up μ 7756 180 ((p + w : Nat) : Int)) 7756 181 (w64 (fxS T p w : Int))) := sorry
theorem tw_fixed {w : Nat} (hw : w ≤ 8) (he : e ≤ n) (hp : p ≤ e) (c : tIn μ n T) (hat : μ 7756 180 = p) (hw0 : μ 7756 17 = 0) : tRd (ab_run wt (d + 2) 69 0 [(2, 7756), (0, w), (0, e), (3, 0)] [] μ) μ (uLg (fxd T w e p)) := sorry
def mny (T : Nat → Int) (e p : Nat) : Flt ⊕ (Nat × Nat) := match vrd T e p with
  | .inl f => .inl f
  | .inr (u, p') => if e < p' + u then .inl (1, (e : Int)) else .inr (u, p')
theorem mny_ok {u p' : Nat} (h : mny T e p = .inr (u, p')) (hp : p ≤ e) (hT : ∀ k, k < e → 0 ≤ T k ∧ T k < 256) : p < p' ∧ p' + u ≤ e := sorry
theorem w64_neg {u : Nat} (hu : u < 18446744073709551616) : (w64 (u : Int) < 0 ↔ 9223372036854775808 ≤ u) ∧ (u < 9223372036854775808 → w64 (u : Int) = u) := sorry
theorem c_stretch (he : e ≤ n) (hp : p ≤ e) (c : cIn μ a L n T) (hat : μ 1 26 = p) : match mny T e p with
    | .inl f => RfG (ab_run wc (d + 3) 544 0 [(2, 1), (0, e), (3, 0), (3, 0)] [] μ) μ f
    | .inr (u, p') => (ab_run wc (d + 3) 544 0 [(2, 1), (0, e), (3, 0), (3, 0)] [] μ) = some ((0, ((p' + u : Nat) : Int)), ab_up μ 1 26 p') := sorry
theorem tw_many (he : e ≤ n) (hp : p ≤ e) (c : tIn μ n T) (hat : μ 7756 180 = p) (hw : μ 7756 17 = 0) : match mny T e p with
    | .inl f => FtY (ab_run wt (d + 3) 161 0 [(2, 7756), (0, e)] [] μ) μ f
    | .inr (u, p') => (ab_run wt (d + 3) 161 0 [(2, 7756), (0, e)] [] μ) = some ((0, 1), ab_up (ab_up μ 7756 180 p') 7756 181 u) := sorry
end Rn
end
section
section Rn
variable {μ μ' μ'' : ab_M} {d a L n e p : Nat} {T : Nat → Int} {k : Int}
noncomputable def uzz (v : Int) : Int := xor64 (ushr64 v 1) (w64 (-(and64 v 1)))
noncomputable def low (k v : Int) : Int := kCut k (if k = 3 then uzz (v % 4294967296) else if k = 7 then uzz v else v)
noncomputable def nmR (k : Int) (T : Nat → Int) (e p : Nat) : Flt ⊕ (Int × Nat) := match (if kWire k = 0 then vrd T e p else fxd T (if kWire k = 1 then 8 else 4) e p) with
  | .inl f => .inl f
  | .inr (u, p') => .inr (low k (w64 (u : Int)), p')
theorem low_w (h1 : 0 ≤ k) (h2 : k ≤ 12) (w : kWire k ≠ 0) {v : Int} : low k v = kCut k v := sorry
theorem c_streamNumber (h1 : 0 ≤ k) (h2 : k ≤ 12) (he : e ≤ n) (hp : p ≤ e) (c : cIn μ a L n T) (hat : μ 1 26 = p) : cRd 1 (ab_run wc (d + 3) 541 0 [(2, 1), (2, (200000 + k)), (0, e), (3, 0), (3, 0)] [] μ) μ (nmR k T e p) := sorry
theorem tw_lowered (h1 : 0 ≤ k) (h2 : k ≤ 12) {v : Int} : (ab_run wt (d + 1) 159 0 [(2, 7756), (0, k), (1, v), (3, 0), (3, 0), (3, 0)] [] μ) = some ((1, low k v), μ) := sorry
theorem tw_numberOf (h1 : 0 ≤ k) (h2 : k ≤ 12) (he : e ≤ n) (hp : p ≤ e) (c : tIn μ n T) (hat : μ 7756 180 = p) (hw : μ 7756 17 = 0) : tRd (ab_run wt (d + 3) 180 0 [(2, 7756), (0, k), (0, e), (3, 0), (3, 0)] [] μ) μ (nmR k T e p) := sorry
end Rn
end
section
section Rk
variable {μ μ' μ'' : ab_M} {d a L n e p : Nat} {T : Nat → Int} {S : SF} {N : NF} {b t s : Nat}
theorem fxd_ok {w u q : Nat} (h : fxd T w e p = .inr (u, q)) : q = p + w ∧ p + w ≤ e := sorry
def psV (w : Int) (T : Nat → Int) (e p : Nat) : Flt ⊕ Nat := if w = 2 then (match mny T e p with
    | .inl f => .inl f
    | .inr (u, p') => .inr (p' + u)) else match (if w = 0 then vrd T e p else fxd T (if w = 1 then 8 else 4) e p) with
    | .inl f => .inl f
    | .inr (_, p') => .inr p'
theorem psV_ok {w : Int} {p' : Nat} (h : psV w T e p = .inr p') (hp : p ≤ e) (hT : ∀ k, k < e → 0 ≤ T k ∧ T k < 256) : p ≤ p' ∧ p' ≤ e := sorry
theorem c_passValue {w : Int} (he : e ≤ n) (hp : p ≤ e) (c : cIn μ a L n T) (hat : μ 1 26 = p) : match psV w T e p with
    | .inl f => RfG (ab_run wc (d + 4) 468 0 [(2, 1), (0, w), (0, e)] [] μ) μ f
    | .inr p' => (ab_run wc (d + 4) 468 0 [(2, 1), (0, w), (0, e)] [] μ) = some ((3, 0), ab_up μ 1 26 p') := sorry
theorem tw_passValue {w : Int} (he : e ≤ n) (hp : p ≤ e) (c : tIn μ n T) (hat : μ 7756 180 = p) (hw : μ 7756 17 = 0) : match psV w T e p with
    | .inl f => FtY (ab_run wt (d + 4) 206 0 [(2, 7756), (0, w), (0, e)] [] μ) μ f
    | .inr p' => ∃ g, (ab_run wt (d + 4) 206 0 [(2, 7756), (0, w), (0, e)] [] μ) = some ((0, 1), ab_up (ab_up μ 7756 180 p') 7756 181 g) := sorry
def rkY (T : Nat → Int) (e p : Nat) : Flt ⊕ (Nat × Nat × Nat) := match vrd T e p with
  | .inl f => .inl f
  | .inr (u, p') => if u / 8 = 0 ∨ 536870911 < u / 8 then .inl (3, (p : Int)) else if u % 8 = 3 ∨ u % 8 = 4 ∨ 5 < u % 8 then .inl (4, (p : Int)) else .inr (u / 8, u % 8, p')
theorem ush3 {u : Nat} (hu : u < 18446744073709551616) : ushr64 (w64 (u : Int)) 3 = ((u / 8 : Nat) : Int) := sorry
theorem an7 {u : Nat} (hu : u < 18446744073709551616) : and64 (w64 (u : Int)) 7 = ((u % 8 : Nat) : Int) := sorry
theorem c_readKey (he : e ≤ n) (hp : p ≤ e) (c : cIn μ a L n T) (hat : μ 1 26 = p) : match rkY T e p with
    | .inl f => RfG (ab_run wc (d + 3) 489 0 [(2, 1), (0, e), (3, 0), (3, 0), (3, 0), (3, 0), (3, 0)] [] μ) μ f
    | .inr (q, w, p') => (ab_run wc (d + 3) 489 0 [(2, 1), (0, e), (3, 0), (3, 0), (3, 0), (3, 0), (3, 0)] [] μ) = some ((3, 0), ab_up (ab_up (ab_up μ 1 26 p') 1 27 q) 1 28 w) := sorry
end Rk
end
section
section Fn
variable {μ : ab_M} {d : Nat} {S : SF} {N : NF} {b t s : Nat} {q : Int}
def fNo (f : Nat → Int) (q : Int) : Nat → Nat → Int
  | 0, _ => -1
  | m + 1, i => if f i = q then i else fNo f q m (i + 1)
theorem fNo_rg {f : Nat → Int} : ∀ (m i : Nat), fNo f q m i = -1 ∨ ∃ j : Nat, fNo f q m i = j ∧ i ≤ j ∧ j < i + m ∧ f j = q := sorry
theorem c_fieldNoL (hb : isS b) (ok : scOK S N) (hc : cSc μ b S N) (ht : (t : Int) < S 0 0 0 ∧ S 2 t 0 = 1) : ∀ (m i : Nat), i + m = fCt S t → (ab_run wc (d + 1) 690 2 [(2, (tyA b t)), (0, q), (0, i)] [] μ) = some ((2, if fNo (S 10 t) q m i < 0 then 0 else ((fdA b t (fNo (S 10 t) q m i).toNat : Nat) : Int)), μ) := sorry
theorem c_fieldNo (hb : isS b) (ok : scOK S N) (hc : cSc μ b S N) (ht : (t : Int) < S 0 0 0 ∧ S 2 t 0 = 1) : (ab_run wc (d + 1) 690 0 [(2, (tyA b t)), (0, q), (3, 0)] [] μ) = some ((2, if fNo (S 10 t) q (fCt S t) 0 < 0 then 0 else ((fdA b t (fNo (S 10 t) q (fCt S t) 0).toNat : Nat) : Int)), μ) := sorry
theorem c_placeL {j : Nat} (hb : isS b) (ok : scOK S N) (ht : (t : Int) < S 0 0 0 ∧ S 2 t 0 = 1) (hj : j < fCt S t) : ∀ (m i : Nat), i + m = j → (ab_run wc (d + 1) 692 2 [(2, (tyA b t)), (2, (fdA b t j)), (0, i)] [] μ) = some ((0, (j : Int)), μ) := sorry
theorem c_placeOf {j : Nat} (hb : isS b) (ok : scOK S N) (ht : (t : Int) < S 0 0 0 ∧ S 2 t 0 = 1) (hj : j < fCt S t) : (ab_run wc (d + 1) 692 0 [(2, (tyA b t)), (2, (fdA b t j)), (3, 0)] [] μ) = some ((0, (j : Int)), μ) := sorry
theorem tw_fieldNoL (ts : TS μ s S N) (ht : (t : Int) < S 0 0 0 ∧ S 2 t 0 = 1) : ∀ (m i : Nat), i + m = fCt S t → (ab_run wt (d + 1) 57 6 [(2, 7756), (0, (((30 * s + t : Nat) : Int))), (1, q), (3, 0), (0, (((fX s t i : Nat) : Int)))] [] μ) = some ((0, if fNo (S 10 t) q m i < 0 then -2 else ((fX s t (fNo (S 10 t) q m i).toNat : Nat) : Int)), μ) := sorry
theorem tw_fieldNo (ts : TS μ s S N) (ht : (t : Int) < S 0 0 0 ∧ S 2 t 0 = 1) : (ab_run wt (d + 1) 57 0 [(2, 7756), (0, (((30 * s + t : Nat) : Int))), (1, q), (3, 0), (3, 0)] [] μ) = some ((0, if fNo (S 10 t) q (fCt S t) 0 < 0 then -2 else ((fX s t (fNo (S 10 t) q (fCt S t) 0).toNat : Nat) : Int)), μ) := sorry
end Fn
end
section
section Lv
variable {μ μ' μ'' μ0 : ab_M} {d D ra ba cap : Nat} {O O1 O2 L : List Int} {S : SF} {N : NF} {A cr ci cb kS b : Nat} {v : Int}
def fltB (O : List Int) : List Int := O.filter fun x => decide (x < 256)
def small (L : List Int) : Prop := ∀ x ∈ L, x < 256
theorem fltB_app : fltB (O ++ L) = fltB O ++ fltB L := sorry
theorem fltB_s (h : small L) : fltB L = L := sorry
theorem small.no (h : small L) : ¬ (256 : Int) ∈ L := sorry
theorem byt.sm {L : List Int} (h : byt L) : small L := sorry
def frU2 (ra ba : Nat) (μ μ' : ab_M) : Prop := ∀ a i, (a ≠ ra ∨ i ≠ 1) → a ≠ ba → (a ≠ 1 ∨ i ≠ 22 ∧ i ≠ 29) → μ' a i = μ a i
theorem frU2.refl : frU2 ra ba μ μ := sorry
theorem frU2.trans (f : frU2 ra ba μ μ') (g : frU2 ra ba μ' μ'') : frU2 ra ba μ μ'' := sorry
theorem frU.u2 (f : frU ra ba μ μ') : frU2 ra ba μ μ' := sorry
def cX (μ : ab_M) (ra ba cap : Nat) (O : List Int) : Prop := cW μ ra ba cap (fltB O) ∧ μ 1 29 = if (256 : Int) ∈ O then 0 else 1
def cZ (run : ab_R) (μ : ab_M) (ra ba cap : Nat) (O : List Int) : Prop := R3 run (fun μ' => cX μ' ra ba cap O ∧ frU2 ra ba μ μ')
theorem cZ.seq {f : ab_M → ab_R} {run : ab_R} (a : cZ run μ ra ba cap O1) (b : ∀ μ', cX μ' ra ba cap O1 → frU2 ra ba μ μ' → cZ (f μ') μ' ra ba cap O2) : cZ (ab_cal run 3 (fun r1 μ1 => some ((4, r1), μ1)) (fun _ μ1 => f μ1)) μ ra ba cap O2 := sorry
theorem cZ.end {run : ab_R} (a : cZ run μ ra ba cap O1) : cZ (ab_cal run 3 (fun r1 μ1 => some ((4, r1), μ1)) (fun _ μ1 => some ((3, 0), μ1))) μ ra ba cap O1 := sorry
theorem cZ.to {run run' : ab_R} (a : cZ run μ ra ba cap O1) (e : run' = run) (h : O1 = O2) : cZ run' μ ra ba cap O2 := sorry
theorem cZ.of {run : ab_R} (c : cX μ ra ba cap O) (s : small L) (a : cV run μ ra ba cap (fltB O ++ L)) : cZ run μ ra ba cap (O ++ L) := sorry
def hi8 (v : Int) : Nat → List Int
  | 0 => []
  | n + 1 => (v / 2 ^ (8 * n) % 256) :: hi8 v n
theorem hi8_byt : ∀ n, byt (hi8 v n) := sorry
theorem hi8_len : ∀ n, (hi8 v n).length = n := sorry
theorem c_ph9 (hv : lng v) : ∀ (n : Nat) (μ : ab_M) (O : List Int), n ≤ 8 → cW μ ra ba cap O → cV (ab_run wc (d + 3) 481 9 [(2, 1), (1, v), (3, 0), (3, 0), (0, (8 * (n : Int) - 8))] [] μ) μ ra ba cap (O ++ hi8 v n) := sorry
theorem c_putHigh {n : Nat} (hv : lng v) (hn : n ≤ 8) (c : cW μ ra ba cap O) : cV (ab_run wc (d + 3) 481 0 [(2, 1), (1, v), (3, 0), (0, n), (3, 0)] [] μ) μ ra ba cap (O ++ hi8 v n) := sorry
theorem x_putHigh {n : Nat} (hv : lng v) (hn : n ≤ 8) (c : cX μ ra ba cap O) : cZ (ab_run wc (d + 3) 481 0 [(2, 1), (1, v), (3, 0), (0, n), (3, 0)] [] μ) μ ra ba cap (O ++ hi8 v n) := sorry
def padL (n : Nat) : List Int := List.replicate ((4 - n % 4) % 4) 0
theorem padL_byt {n : Nat} : byt (padL n) := sorry
theorem c_pad100 : ∀ (k n : Nat) (μ : ab_M) (O : List Int), k = (4 - n % 4) % 4 → n + k < 100000 → cW μ ra ba cap O → cV (ab_run wc (d + 3) 444 100 [(2, 1), (3, 0), (3, 0), (3, 0), (3, 0), (3, 0), (3, 0), (3, 0), (3, 0), (3, 0), (0, n)] [] μ) μ ra ba cap (O ++ List.replicate k 0) := sorry
noncomputable def lnV (S : SF) (k : Int) (ty : Nat) (v : Int) (l pc : List Int) : List Int := (if k = 11 ∧ cnI (S 25 ty) v (S 3 ty 0).toNat 0 < 0 then [256] else []) ++ (if k ≤ 8 ∨ k = 11 then hi8 v (if kBits k = 64 then 8 else 4) else if k = 12 then pc else hi8 (l.length : Int) 4 ++ (l ++ padL l.length))
theorem c_lnV {k x3 x4 w x7 x8 x9 : Int} {bx lb : Nat} {l pc : List Int} {o ty : Nat} (hm : isM A cr ci cb) (ms : cMS μ A kS b S N) (k1 : 0 ≤ k) (k2 : k ≤ 12) (hv : k ≤ 8 ∨ k = 11 → x4 = w ∧ lng w) (ht : k = 11 → x3 = ty ∧ (ty : Int) < S 0 0 0 ∧ S 2 ty 0 = 0) (hl : k = 9 ∨ k = 10 → x7 = o ∧ x8 = l.length ∧ wc_ar bx = (4, lb) ∧ o + l.length ≤ lb ∧ lb < 20000 ∧ cBy μ bx o l ∧ byt l ∧ bx ≠ 1 ∧ bx ≠ ra ∧ bx ≠ ba) (hr : k = 12 → cZ (ab_run wc (D + 4) 442 0 [(2, 1), (2, A), (0, x9), (3, 0), (3, 0), (3, 0), (3, 0), (3, 0)] [] μ) μ ra ba cap (O ++ pc)) (c : cX μ ra ba cap O) : cZ (ab_run wc (D + 5) 444 0 [(2, 1), (2, A), (2, (200000 + k)), (0, x3), (1, x4), (3, 0), (2, bx), (0, x7), (0, x8), (0, x9), (3, 0)] [] μ) μ ra ba cap (O ++ lnV S k ty w l pc) := sorry
end Lv
end
section
section Ls
variable {μ μ' μ'' μ0 : ab_M} {d D ra ba cap : Nat} {O O1 O2 : List Int} {S : SF} {N : NF} {A cr ci cb kS b : Nat} {X : Rsv} {h : He} {ni nu us r j : Nat} {P : Nat → List Int}
noncomputable def lnS (S : SF) (N : NF) (t j : Nat) (P : Nat → List Int) (l : List It) : List Int := match l with
  | [] => lnV S (S 12 t j) (S 13 t j).toNat (S 19 t j) (N 7 t j) []
  | q :: _ => lnV S (S 12 t j) (S 13 t j).toNat q.2.2.1 q.2.2.2.1 (P q.2.2.2.2)
theorem frU2.ng {a i : Nat} (f : frU2 ra ba μ μ') (o : isO ra ba cap) (h1 : a ≠ 1) (h2 : a ≠ 1310 ∧ a ≠ 1311 ∧ a ≠ 1312 ∧ a ≠ 1313) : μ' a i = μ a i := sorry
theorem cMS.u2 (c : cMS μ A kS b S N) (hm : isM A cr ci cb) (o : isO ra ba cap) (f : frU2 ra ba μ μ') : cMS μ' A kS b S N := sorry
theorem CM.u2 {nr : Nat} {ty : Nat → Nat} {V : Nat → Nat → List It} {U : Nat → List Un} (c : CM X S μ A cr ci cb nr ty V U ni nu us) (hm : isM A cr ci cb) (o : isO ra ba cap) (f : frU2 ra ba μ μ') : CM X S μ' A cr ci cb nr ty V U ni nu us := sorry
theorem fmU2 (hm : isM A cr ci cb) (o : isO ra ba cap) (f : frU2 ra ba μ μ') (g x : Nat) : μ' (msA A g) x = μ (msA A g) x := sorry
def lwQ (A ra ba cap : Nat) (μ0 : ab_M) (D : Nat) (P : Nat → List Int) (q : It) : Prop := ∀ D', D ≤ D' → ∀ μ, frU2 ra ba μ0 μ → ∀ O, cX μ ra ba cap O → cZ (ab_run wc (D') 442 0 [(2, 1), (2, A), (0, (q.2.2.2.2)), (3, 0), (3, 0), (3, 0), (3, 0), (3, 0)] [] μ) μ ra ba cap (O ++ P q.2.2.2.2)
theorem in4_o (hb : isS b) (o : isO ra ba cap) : inA b 4 ≠ 1 ∧ inA b 4 ≠ ra ∧ inA b 4 ≠ ba := sorry
theorem c_lnSlot (hm : isM A cr ci cb) (ms0 : cMS μ0 A kS b S N) (cm0 : CM X S μ0 A cr ci cb h.1 h.2.1 h.2.2.1 h.2.2.2 ni nu us) (hr : r < h.1) (hj : j < fCt S (h.2.1 r)) (my : S 11 (h.2.1 r) j < 2) (hi : hI S h) (hn : hNm S h) (b7 : byt (N 7 (h.2.1 r) j)) (nh : ∀ q ∈ h.2.2.1 r j, q.2.2.2.2 ≠ hole) (hs : isPl S (h.2.1 r) j ∨ h.2.2.1 r j ≠ []) (hP : S 12 (h.2.1 r) j = 12 → ∀ q ∈ h.2.2.1 r j, lwQ A ra ba cap μ0 (D + 4) P q) (f : frU2 ra ba μ0 μ) (c : cX μ ra ba cap O) :
    cZ (ab_run wc (D + 6) 443 0 [(2, 1), (2, A), (2, (fdA b (h.2.1 r) j)), (0, (((bsF S h.2.1 r + j : Nat) : Int))), (3, 0)] [] μ) μ ra ba cap (O ++ lnS S N (h.2.1 r) j P (h.2.2.1 r j)) := sorry
end Ls
end
section
section Lr
variable {μ μ' μ'' μ0 : ab_M} {d D ra ba cap : Nat} {O O1 O2 : List Int} {S : SF} {N : NF} {A cr ci cb kS b : Nat} {X : Rsv} {h : He} {ni nu us r j t : Nat} {P : Nat → List Int}
def lnT (S : SF) (t : Nat) (v : Nat → List It) (one : Int) : Nat → Nat → Int → Int
  | 0, _, th => th
  | m + 1, k, th => if S 15 t k = one then lnT S t v one m (k + 1) (if v k = [] then th else k) else th
noncomputable def lnO (S : SF) (N : NF) (t : Nat) (P : Nat → List Int) (v : Nat → List It) (n j : Nat) : List Int := if lnT S t v (S 15 t j) (n - j) j (-1) < 0 then hi8 0 4 else hi8 (S 10 t (lnT S t v (S 15 t j) (n - j) j (-1)).toNat) 4 ++ lnS S N t (lnT S t v (S 15 t j) (n - j) j (-1)).toNat P (v (lnT S t v (S 15 t j) (n - j) j (-1)).toNat)
noncomputable def lnI (S : SF) (t j : Nat) (P : Nat → List Int) (q : It) : List Int := (if S 11 t j = 3 then lnV S (S 14 t j) 0 q.1 q.2.1 [] else []) ++ lnV S (S 12 t j) (S 13 t j).toNat q.2.2.1 q.2.2.2.1 (P q.2.2.2.2)
noncomputable def lnJ (S : SF) (N : NF) (t : Nat) (P : Nat → List Int) (v : Nat → List It) (n j : Nat) : List Int := if 0 ≤ S 15 t j then (if j = 0 ∨ S 15 t (j - 1) ≠ S 15 t j then lnO S N t P v n j else []) else if 2 ≤ S 11 t j then hi8 ((v j).length : Int) 4 ++ (v j).flatMap (lnI S t j P) else if S 11 t j = 0 ∧ S 12 t j ≠ 12 then lnS S N t j P (v j) else if v j = [] then hi8 0 4 else hi8 1 4 ++ lnS S N t j P (v j)
noncomputable def lnFs (S : SF) (N : NF) (t : Nat) (P : Nat → List Int) (v : Nat → List It) (n : Nat) : Nat → Nat → List Int
  | 0, _ => []
  | m + 1, j => lnJ S N t P v n j ++ lnFs S N t P v n m (j + 1)
noncomputable def lnR (S : SF) (N : NF) (h : He) : Nat → Nat → List Int
  | 0, _ => []
  | f + 1, r => lnFs S N (h.2.1 r) (lnR S N h f) (h.2.2.1 r) (fCt S (h.2.1 r)) (fCt S (h.2.1 r)) 0
def n7OK (S : SF) (N : NF) : Prop := ∀ t j : Nat, (t : Int) < S 0 0 0 → S 2 t 0 = 1 → j < fCt S t → byt (N 7 t j)
theorem lnT_rg {v : Nat → List It} {one : Int} : ∀ (m k : Nat) (th : Int), (th = -1 ∨ ∃ i : Nat, th = i ∧ i < k ∧ v i ≠ [] ∧ S 15 t i = one) → lnT S t v one m k th = -1 ∨ ∃ i : Nat, lnT S t v one m k th = i ∧ i < k + m ∧ v i ≠ [] ∧ S 15 t i = one := sorry
theorem CM.has9 (cm : CM X S μ A cr ci cb h.1 h.2.1 h.2.2.1 h.2.2.2 ni nu us) (hr : r < h.1) (hj : j < fCt S (h.2.1 r)) (my : S 11 (h.2.1 r) j < 2) : μ (msA A 9) (bsF S h.2.1 r + j) = if h.2.2.1 r j = [] then 0 else 1 := sorry
theorem c_ln7 {first : Nat} (hm : isM A cr ci cb) (ms : cMS μ A kS b S N) (cm : CM X S μ A cr ci cb h.1 h.2.1 h.2.2.1 h.2.2.2 ni nu us) (hr : r < h.1) (hf : first < fCt S (h.2.1 r)) (o15 : 0 ≤ S 15 (h.2.1 r) first) : ∀ (m k : Nat) (th : Int), k + m = fCt S (h.2.1 r) → (th = -1 ∨ ∃ i : Nat, th = i ∧ i < k ∧ h.2.2.1 r i ≠ [] ∧ S 15 (h.2.1 r) i = S 15 (h.2.1 r) first) →
    (ab_run wc (D + 1) 440 7 [(2, 1), (2, A), (0, r), (2, (tyA b (h.2.1 r))), (0, first), (0, th), (0, k)] [] μ) = (ab_run wc (D + 1) 440 87 [(2, 1), (2, A), (0, r), (2, (tyA b (h.2.1 r))), (3, 0), (0, (lnT S (h.2.1 r) (h.2.2.1 r) (S 15 (h.2.1 r) first) m k th)), (3, 0)] [(1, ((if lnT S (h.2.1 r) (h.2.2.1 r) (S 15 (h.2.1 r) first) m k th < 0 then 0 else S 10 (h.2.1 r) (lnT S (h.2.1 r) (h.2.2.1 r) (S 15 (h.2.1 r) first) m k th).toNat))), (2, 1)] μ) := sorry
end Lr
end
section
section Lr
variable {μ μ' μ'' μ0 : ab_M} {d D ra ba cap : Nat} {O O1 O2 : List Int} {S : SF} {N : NF} {A cr ci cb kS b : Nat} {X : Rsv} {h : He} {ni nu us r j t : Nat} {P : Nat → List Int}
theorem c_linearOne {first : Nat} (hm : isM A cr ci cb) (ms0 : cMS μ0 A kS b S N) (cm0 : CM X S μ0 A cr ci cb h.1 h.2.1 h.2.2.1 h.2.2.2 ni nu us) (hr : r < h.1) (hf : first < fCt S (h.2.1 r)) (o15 : 0 ≤ S 15 (h.2.1 r) first) (hi : hI S h) (hn : hNm S h) (n7 : n7OK S N) (nh : ∀ j, j < fCt S (h.2.1 r) → ∀ q ∈ h.2.2.1 r j, q.2.2.2.2 ≠ hole) (hP : ∀ j, j < fCt S (h.2.1 r) → S 12 (h.2.1 r) j = 12 → ∀ q ∈ h.2.2.1 r j, lwQ A ra ba cap μ0 (D + 4) P q) (f : frU2 ra ba μ0 μ) (c : cX μ ra ba cap O) :
    cZ (ab_run wc (D + 7) 440 0 [(2, 1), (2, A), (0, r), (2, (tyA b (h.2.1 r))), (0, first), (3, 0), (3, 0)] [] μ) μ ra ba cap (O ++ lnO S N (h.2.1 r) P (h.2.2.1 r) (fCt S (h.2.1 r)) first) := sorry
theorem chI.u2 {so ks : Nat} {ch : List Nat} {L0 : List It} (c : chI μ A ci us so ks ch L0) (hm : isM A cr ci cb) (o : isO ra ba cap) (f : frU2 ra ba μ μ') : chI μ' A ci us so ks ch L0 := sorry
theorem c_ln129 {ch : List Nat} {L0 : List It} {x4 : Nat} (hm : isM A cr ci cb) (ms0 : cMS μ0 A kS b S N) (cm0 : CM X S μ0 A cr ci cb h.1 h.2.1 h.2.2.1 h.2.2.2 ni nu us) (hr : r < h.1) (hj : j < fCt S (h.2.1 r)) (my : 2 ≤ S 11 (h.2.1 r) j) (u2 : us ≤ cb) (hx : x4 < 1000) (o : isO ra ba cap) (c0 : chI μ0 A ci us (fSo (S 12 (h.2.1 r) j)) (fKs (S 11 (h.2.1 r) j) (S 14 (h.2.1 r) j)) ch L0) (nh : ∀ q ∈ L0, q.2.2.2.2 ≠ hole) (hl : ∀ q ∈ L0, (lng q.1 ∧ byt q.2.1) ∧ lng q.2.2.1 ∧ byt q.2.2.2.1) (hP : S 12 (h.2.1 r) j = 12 → ∀ q ∈ L0, lwQ A ra ba cap μ0 (D + 4) P q) :
    ∀ (L : List It) (p : Nat) (μ : ab_M) (O : List Int), frU2 ra ba μ0 μ → (∀ q : Nat, L0[p + q]? = L[q]?) → p + L.length = ch.length → cX μ ra ba cap O → ∃ μ', (ab_run wc (D + 6) 442 129 [(2, 1), (2, A), (0, r), (2, (tyA b (h.2.1 r))), (0, x4), (2, (fdA b (h.2.1 r) j)), (3, 0), (0, (nx ch p))] [] μ) = (ab_run wc (D + 6) 442 10 [(2, 1), (2, A), (0, r), (2, (tyA b (h.2.1 r))), (0, (((x4 + 1 : Nat) : Int))), (3, 0), (3, 0), (3, 0)] [] μ') ∧ cX μ' ra ba cap (O ++ L.flatMap (lnI S (h.2.1 r) j P)) ∧ frU2 ra ba μ μ' := sorry
end Lr
end
section
section Lr
variable {μ μ' μ'' μ0 : ab_M} {d D ra ba cap : Nat} {O O1 O2 : List Int} {S : SF} {N : NF} {A cr ci cb kS b m s bs : Nat} {X : Rsv} {h : He} {ni nu us r j t : Nat} {P : Nat → List Int}
theorem CM.count (cm : CM X S μ A cr ci cb h.1 h.2.1 h.2.2.1 h.2.2.2 ni nu us) (hr : r < h.1) (hj : j < fCt S (h.2.1 r)) (my : 2 ≤ S 11 (h.2.1 r) j) : μ (msA A 16) (bsF S h.2.1 r + j) = (h.2.2.1 r j).length := sorry
theorem c_ln10 (hm : isM A cr ci cb) (ms0 : cMS μ0 A kS b S N) (cm0 : CM X S μ0 A cr ci cb h.1 h.2.1 h.2.2.1 h.2.2.2 ni nu us) (hr : r < h.1) (cn : hCn S h) (hi : hI S h) (hn : hNm S h) (n7 : n7OK S N) (h1000 : h.1 < hole) (o : isO ra ba cap) (hc : ∀ j, j < fCt S (h.2.1 r) → S 12 (h.2.1 r) j = 12 → ∀ q ∈ h.2.2.1 r j, q.2.2.2.2 < h.1 ∧ lwQ A ra ba cap μ0 (D + 4) P q) :
    ∀ (m j : Nat) (μ : ab_M) (O : List Int), j + m = fCt S (h.2.1 r) → frU2 ra ba μ0 μ → cX μ ra ba cap O → cZ (ab_run wc (D + 8) 442 10 [(2, 1), (2, A), (0, r), (2, (tyA b (h.2.1 r))), (0, j), (3, 0), (3, 0), (3, 0)] [] μ) μ ra ba cap (O ++ lnFs S N (h.2.1 r) P (h.2.2.1 r) (fCt S (h.2.1 r)) m j) := sorry
theorem c_LW {al : Nat → Bool} (hm : isM A cr ci cb) (cn : hCn S h) (hi : hI S h) (hn : hNm S h) (n7 : n7OK S N) (h1000 : h.1 < hole) (dn : hDn S h al) (o : isO ra ba cap) (ms0 : cMS μ0 A kS b S N) (cm0 : CM X S μ0 A cr ci cb h.1 h.2.1 h.2.2.1 h.2.2.2 ni nu us) : ∀ (f D r : Nat) (μ : ab_M) (O : List Int), 4 * f + 8 ≤ D → r < h.1 → al r = true → h.1 ≤ r + f → frU2 ra ba μ0 μ → cX μ ra ba cap O → cZ (ab_run wc D 442 0 [(2, 1), (2, A), (0, r), (3, 0), (3, 0), (3, 0), (3, 0), (3, 0)] [] μ) μ ra ba cap (O ++ lnR S N h f r) := sorry
end Lr
end
section
section Le
variable {μ μ' μ'' μ0 : ab_M} {d D ra ba cap : Nat} {O : List Int} {S : SF} {N : NF} {m s bs : Nat} {h : He}
noncomputable def lnM (S : SF) (N : NF) (h : He) : List Int := lnR S N h h.1 0
theorem c_write1 (hD : 2000 ≤ D) (o : isO ra ba cap) (hm : m < 12) (n7 : n7OK S N) (mc : mC S N μ m s bs h) : ∃ μ', (ab_run wc ((D + 1)) 569 0 [(2, 1), (2, (((6314 + 27 * m : Nat) : Int))), (0, 1), (2, ra), (3, 0), (3, 0)] [] μ) = some ((0, if cap < (fltB (lnM S N h)).length then 0 else 1), μ') ∧ (μ' 1 29 = if (256 : Int) ∈ lnM S N h then 0 else 1) ∧ ((fltB (lnM S N h)).length ≤ cap → cRow μ' ra ba cap (fltB (lnM S N h))) ∧ ∀ a i, (a ≠ ra ∨ i ≠ 1) → a ≠ ba → (a ≠ 1 ∨ i ≠ 22 ∧ i ≠ 29) → μ' a i = μ a i := sorry
theorem c_encode1 {row : Nat} (hD : 2000 ≤ D) (hm : m < 12) (hr : row < 8) (n7 : n7OK S N) (z : μ (6314 + 27 * m) 0 = 1) (mc : mC S N μ m s bs h) :
    R0 (ab_run wc ((D + 2)) 396 0 [(2, 1), (0, m), (0, 1), (0, row), (3, 0)] [] μ) (fun v μ' => (∀ a i, (a ≠ 1310 ∨ i ≠ 1) → a ≠ 1311 → (a ≠ 1 ∨ i ≠ 22 ∧ i ≠ 29) → (a ≠ rwA row ∨ i ≠ 1) → a ≠ rbA row → μ' a i = μ a i) ∧ if (256 : Int) ∈ lnM S N h ∨ 4000 < (fltB (lnM S N h)).length then (v = if (256 : Int) ∈ lnM S N h then -2 else -3) ∧ (∀ a i, 1337 < a → a < 1354 → μ' a i = μ a i) else v = (fltB (lnM S N h)).length ∧ cRow μ' (rwA row) (rbA row) 4000 (fltB (lnM S N h))) := sorry
end Le
end
section
section Tl
variable {μ μ' μ'' : ab_M} {d : Nat} {O O1 O2 L : List Int} {S : SF} {N : NF} {m s t j : Nat} {v : Int}
def tXo (μ : ab_M) (O : List Int) : Prop := tOu μ (fltB O) ∧ μ 7756 194 = if (256 : Int) ∈ O then 1 else 0
def frML (μ μ' : ab_M) : Prop := ∀ a i, a ≠ 7887 → (a ≠ 7756 ∨ i ≠ 172 ∧ i ≠ 194) → μ' a i = μ a i
theorem frML.refl : frML μ μ := sorry
theorem frML.trans (f : frML μ μ') (g : frML μ' μ'') : frML μ μ'' := sorry
theorem frM2.ml (f : frM2 μ μ') : frML μ μ' := sorry
def tZ (run : ab_R) (μ : ab_M) (O : List Int) : Prop := R3 run (fun μ' => tXo μ' O ∧ frML μ μ')
theorem tZ.seq {f : ab_M → ab_R} {run : ab_R} (a : tZ run μ O1) (b : ∀ μ', tXo μ' O1 → frML μ μ' → tZ (f μ') μ' O2) : tZ (ab_cal run 3 (fun r1 μ1 => some ((4, r1), μ1)) (fun _ μ1 => f μ1)) μ O2 := sorry
theorem tZ.end {run : ab_R} (a : tZ run μ O1) : tZ (ab_cal run 3 (fun r1 μ1 => some ((4, r1), μ1)) (fun _ μ1 => some ((3, 0), μ1))) μ O1 := sorry
theorem tZ.to {run run' : ab_R} (a : tZ run μ O1) (e : run' = run) (h : O1 = O2) : tZ run' μ O2 := sorry
theorem tZ.of {run : ab_R} (c : tXo μ O) (s : small L) (a : tE run μ (fltB O ++ L)) : tZ run μ (O ++ L) := sorry
theorem fltB_le : (fltB O).length ≤ O.length := sorry
theorem tw_p43 (hv : lng v) : ∀ (n : Nat) (μ : ab_M) (O : List Int), n ≤ 4 → tOu μ O → O.length + n < 2147483640 → tE (ab_run wt (d + 2) 221 3 [(2, 7756), (1, v), (3, 0), (0, (8 * (n : Int) - 8))] [] μ) μ (O ++ hi8 v n) := sorry
theorem tw_put4 (hv : lng v) (c : tOu μ O) (ln : O.length < 2147483600) : tE (ab_run wt (d + 2) 221 0 [(2, 7756), (1, v), (3, 0), (3, 0)] [] μ) μ (O ++ hi8 v 4) := sorry
theorem hi8_84 : hi8 v 8 = hi8 (v / 4294967296) 4 ++ hi8 v 4 := sorry
theorem tw_cn9 (ts : TS μ s S N) (t1 : (t : Int) < S 0 0 0) (t2 : S 2 t 0 = 0) : ∀ (k i : Nat) (x4 : Int), (x4 = 0 ∨ x4 = 1) → i + k = (S 3 t 0).toNat → (ab_run wt (d + 1) 83 9 [(2, 7756), (0, (((30 * s + t : Nat) : Int))), (1, v), (3, 0), (0, x4), (0, (((16 * (30 * s + t) + i : Nat) : Int)))] [] μ) = some ((0, if x4 = 1 ∨ ¬ cnI (S 25 t) v k i < 0 then 1 else 0), μ) := sorry
theorem tw_isConstant (ts : TS μ s S N) (t1 : (t : Int) < S 0 0 0) (t2 : S 2 t 0 = 0) : (ab_run wt (d + 1) 83 0 [(2, 7756), (0, (((30 * s + t : Nat) : Int))), (1, v), (3, 0), (3, 0), (3, 0)] [] μ) = some ((0, if cnI (S 25 t) v (S 3 t 0).toNat 0 < 0 then 0 else 1), μ) := sorry
theorem tw_putLinear {k tt : Int} {ty : Nat} (ts : TS μ s S N) (k1 : 0 ≤ k) (k2 : k ≤ 8 ∨ k = 11) (hv : lng v) (ht : k = 11 → tt = ((30 * s + ty : Nat) : Int) ∧ (ty : Int) < S 0 0 0 ∧ S 2 ty 0 = 0) (c : tXo μ O) (ln : O.length < 2147483000) {l : List Int} : tZ (ab_run wt (d + 3) 228 0 [(2, 7756), (0, k), (0, tt), (1, v), (3, 0)] [] μ) μ (O ++ lnV S k ty v l []) := sorry
end Tl
end
section
section Tl
variable {μ μ' μ'' : ab_M} {d : Nat} {O O1 O2 L : List Int} {S : SF} {N : NF} {m s t j pM : Nat} {v : Int} {ε : Nat → Nat}
theorem tw_pad16 : ∀ (k n : Nat) (μ : ab_M) (O : List Int), k = (4 - n % 4) % 4 → n + k < 100000 → tOu μ O → O.length + k < 2147483640 → tE (ab_run wt (d + 2) 233 16 [(2, 7756), (3, 0), (3, 0), (3, 0), (0, n)] [] μ) μ (O ++ List.replicate k 0) := sorry
theorem padL_len {n : Nat} : (padL n).length ≤ 3 := sorry
def lnX (l : List Int) : List Int := hi8 (l.length : Int) 4 ++ (l ++ padL l.length)
theorem tw_putPadded {fi : Nat} {l : List Int} (hm : m < 16) (hf : fi + l.length ≤ 9000) (hb : tBy μ 7879 (9000 * m + fi) l) (by' : byt l) (c : tXo μ O) (ln : O.length < 2147400000) : tZ (ab_run wt (d + 3) 233 0 [(2, 7756), (0, m), (0, fi), (0, (l.length)), (3, 0)] [] μ) μ (O ++ lnX l) := sorry
theorem lnV_x {k : Int} {ty : Nat} {l pc : List Int} (h : k = 9 ∨ k = 10) : lnV S k ty v l pc = lnX l := sorry
theorem lnV_pc {k : Int} {ty : Nat} {l pc pc' : List Int} (h : k ≠ 12) : lnV S k ty v l pc = lnV S k ty v l pc' := sorry
theorem lnV_l {k : Int} {ty : Nat} {l l' pc : List Int} (h : k ≠ 9) (h2 : k ≠ 10) (k1 : 0 ≤ k) (k2 : k ≤ 12) : lnV S k ty v l pc = lnV S k ty v l' pc := sorry
theorem tw_putPlain {k tt x6 x7 : Int} {ty fi : Nat} {l : List Int} (ts : TS μ s S N) (hm : m < 16) (k1 : 0 ≤ k) (k12 : k ≠ 12) (k2 : k ≤ 12) (hv : k ≤ 8 ∨ k = 11 → lng v) (ht : k = 11 → tt = ((30 * s + ty : Nat) : Int) ∧ (ty : Int) < S 0 0 0 ∧ S 2 ty 0 = 0) (hl : k = 9 ∨ k = 10 → x6 = fi ∧ x7 = l.length ∧ fi + l.length ≤ 9000 ∧ tBy μ 7879 (9000 * m + fi) l ∧ byt l) (c : tXo μ O) (ln : O.length < 2147400000) : tZ (ab_run wt (d + 4) 234 0 [(2, 7756), (0, m), (0, k), (0, tt), (1, v), (3, 0), (0, x6), (0, x7)] [] μ) μ (O ++ lnV S k ty v l []) := sorry
theorem tw_enumType (ts : TS μ s S N) (t1 : (t : Int) < S 0 0 0) (t2 : S 2 t 0 = 1) (hj : j < fCt S t) : (ab_run wt (d + 2) 49 0 [(2, 7756), (0, (fX s t j))] [] μ) = some ((0, if S 12 t j = 11 then 30 * (s : Int) + S 13 t j else -2), μ) := sorry
theorem tw_openLinear {G : Nat} {e : Int} (g16 : G < 16) (hg : μ 7756 175 = G) : (ab_run wt (d + 1) 186 0 [(2, 7756), (0, e)] [] μ) = some ((3, 0), ab_up (ab_up (ab_up (ab_up μ 7900 G e) 7901 G 0) 7902 G (-2)) 7756 175 ((G + 1 : Nat) : Int)) := sorry
end Tl
end
section
section Tf
variable {μ μ' μ'' μ0 : ab_M} {d : Nat} {S : SF} {N : NF} {m s t j pM : Nat} {ε : Nat → Nat}
theorem W_run (nu : nuOK S) (t1 : (t : Int) < S 0 0 0) (t2 : S 2 t 0 = 1) (hj : j < fCt S t) {W : List We} (so : W.Pairwise (fun a b => S 10 t a.1 ≤ S 10 t b.1)) (hb : ∀ x ∈ W, x.1 < fCt S t) (ge : ∀ x ∈ W, S 10 t j ≤ S 10 t x.1) : ∃ R, W = (wV W j).map (Prod.mk j) ++ R ∧ ∀ y ∈ R, y.1 ≠ j := sorry
theorem tFst_run (nu : nuOK S) (t1 : (t : Int) < S 0 0 0) (t2 : S 2 t 0 = 1) (hj : j < fCt S t) : ∀ (W : List We) (cL : List Nat) (x : Int), tSg μ x cL (-2) → tEs S μ m s pM ε t cL W → W.Pairwise (fun a b => S 10 t a.1 ≤ S 10 t b.1) → wV W j ≠ [] → ∃ cR R, tSg μ (tFst μ (fX s t j) cL) cR (-2) ∧ tEs S μ m s pM ε t cR ((wV W j).map (Prod.mk j) ++ R) ∧ (∀ y ∈ R, y.1 ≠ j) ∧ (∀ i ∈ cR, i ∈ cL) ∧ ∀ y ∈ (wV W j).map (Prod.mk j) ++ R, y ∈ W := sorry
theorem tw_itemsFrom {e0 : Nat} (h0 : e0 < 73600) (f0 : μ 7869 e0 = fX s t j) : ∀ (L : List We) (cL : List Nat) (x : Int) (a : Nat), tSg μ x cL (-2) → tEs S μ m s pM ε t cL L → (∀ i ∈ cL, i < 73600) → a + (lead j L).length < 1000000 → (ab_run wt (d + 1) 114 4 [(2, 7756), (0, e0), (0, a), (0, x)] [] μ) = some ((0, ((a + (lead j L).length : Nat) : Int)), μ) := sorry
end Tf
end
section
section Ti
variable {μ μ' μ'' μ0 : ab_M} {d : Nat} {O : List Int} {S : SF} {N : NF} {m s t j r uM pM : Nat} {h : He} {ε : Nat → Nat} {W : Nat → List We} {c uc : Nat → List Nat} {own : Nat → Nat} {P : Nat → List Int}
def frLn (μ μ' : ab_M) : Prop := ∀ a i, a ≠ 7887 → a ≠ 7900 → a ≠ 7901 → a ≠ 7902 → (a ≠ 7756 ∨ i ≠ 172 ∧ i ≠ 175 ∧ i ≠ 194) → μ' a i = μ a i
theorem frLn.refl : frLn μ μ := sorry
theorem frLn.trans (f : frLn μ μ') (g : frLn μ' μ'') : frLn μ μ'' := sorry
theorem frML.ln (f : frML μ μ') : frLn μ μ' := sorry
theorem TS.ln (c : TS μ0 s S N) (f : frLn μ0 μ) : TS μ s S N := sorry
theorem tEn.ln {i : Nat} {x : We} (e : tEn S μ0 m s pM ε t i x) (f : frLn μ0 μ) : tEn S μ m s pM ε t i x := sorry
def lnG (μ : ab_M) (G e j : Nat) (it : Int) : Prop := μ 7756 175 = ((G + 1 : Nat) : Int) ∧ μ 7900 G = e ∧ μ 7901 G = j ∧ μ 7902 G = it
def lnB (G : Nat) (μ μ' : ab_M) : Prop := ∀ i, i < G → μ' 7900 i = μ 7900 i ∧ μ' 7901 i = μ 7901 i ∧ μ' 7902 i = μ 7902 i
theorem lnB.trans {G : Nat} (a : lnB G μ μ') (b : lnB G μ' μ'') : lnB G μ μ'' := sorry
theorem frML.b {G : Nat} (f : frML μ μ') : lnB G μ μ' := sorry
theorem lnG.ml {G e j : Nat} {it : Int} (g : lnG μ G e j it) (f : frML μ μ') : lnG μ' G e j it := sorry
def TLs (d m : Nat) (μ0 : ab_M) (ε : Nat → Nat) (out : List Int) (r G : Nat) : Prop := ∀ (μ : ab_M) (O : List Int), frLn μ0 μ → tXo μ O → lnG μ G (ε r) 0 (-2) → O.length + out.length < 2147300000 → ∃ μ', (ab_run wt (d + 6) 330 24 [(2, 7756), (0, m), (3, 0), (3, 0), (3, 0), (3, 0), (3, 0)] [] μ) = (ab_run wt (d + 6) 330 24 [(2, 7756), (0, m), (3, 0), (3, 0), (3, 0), (3, 0), (3, 0)] [] μ') ∧ tXo μ' (O ++ out) ∧ μ' 7756 175 = G ∧ frLn μ0 μ' ∧ lnB G μ μ'
theorem TLs.run {G e k i : Nat} {it : Int} {w : List Int} {r2 : Nat} (T : TLs d m μ0 ε w r2 (G + 1)) (g16 : G + 1 < 16) (f : frLn μ0 μ) (c : tXo μ O) (g : lnG μ G e k it) (ei : ε r2 = i) (ln : O.length + w.length < 2147300000) : ∃ μ1 μ', (∀ d, (ab_run wt (d + 1) 186 0 [(2, 7756), (0, i)] [] μ) = some ((3, 0), μ1)) ∧ (ab_run wt (d + 6) 330 24 [(2, 7756), (0, m), (3, 0), (3, 0), (3, 0), (3, 0), (3, 0)] [] μ1) = (ab_run wt (d + 6) 330 24 [(2, 7756), (0, m), (3, 0), (3, 0), (3, 0), (3, 0), (3, 0)] [] μ') ∧ tXo μ' (O ++ w) ∧ frLn μ0 μ' ∧ lnG μ' G e k it ∧ lnB G μ μ' := sorry
theorem tw_lnE {i : Nat} {q : It} (ts : TS μ s S N) (m16 : m < 16) (t1 : (t : Int) < S 0 0 0) (t2 : S 2 t 0 = 1) (hj : j < fCt S t) (k12 : S 12 t j ≠ 12) (en : tEn S μ m s pM ε t i (j, q)) (pm : pM ≤ 9000) (kn : lng q.2.2.1 ∧ byt q.2.2.2.1) (c : tXo μ O) (ln : O.length < 2147400000) : tZ (ab_run wt (d + 4) 234 0 [(2, 7756), (0, m), (0, (S 12 t j)), (0, ((if S 12 t j = 11 then 30 * (s : Int) + S 13 t j else -2))), (1, (μ 7873 i)), (3, 0), (0, (μ 7874 i)), (0, (μ 7875 i))] [] μ) μ (O ++ lnV S (S 12 t j) (S 13 t j).toNat q.2.2.1 q.2.2.2.1 (P q.2.2.2.2)) := sorry
end Ti
end
section
section Ti
variable {μ μ' μ'' μ0 : ab_M} {d : Nat} {O : List Int} {S : SF} {N : NF} {m s t j uM pM : Nat} {ε : Nat → Nat} {P : Nat → List Int}
theorem tw_lnItems {G e k : Nat} (ts : TS μ0 s S N) (m16 : m < 16) (t1 : (t : Int) < S 0 0 0) (t2 : S 2 t 0 = 1) (hj : j < fCt S t) (pm : pM ≤ 9000) (g16 : G + 1 < 16) :
    ∀ (run : List It) (R : List We) (cL : List Nat) (x : Int) (μ : ab_M) (O : List Int), tSg μ0 x cL (-2) → tEs S μ0 m s pM ε t cL (run.map (Prod.mk j) ++ R) → (∀ y ∈ R, y.1 ≠ j) → (∀ i ∈ cL, i < 73600) → (∀ q ∈ run, (lng q.1 ∧ byt q.2.1) ∧ lng q.2.2.1 ∧ byt q.2.2.2.1) → (S 12 t j = 12 → ∀ q ∈ run, TLs d m μ0 ε (P q.2.2.2.2) q.2.2.2.2 (G + 1)) → frLn μ0 μ → tXo μ O → lnG μ G e k (if run = [] then -2 else x) → O.length + (run.flatMap (lnI S t j P)).length < 2147300000 →
    ∃ μ', (ab_run wt (d + 6) 330 24 [(2, 7756), (0, m), (3, 0), (3, 0), (3, 0), (3, 0), (3, 0)] [] μ) = (ab_run wt (d + 6) 330 24 [(2, 7756), (0, m), (3, 0), (3, 0), (3, 0), (3, 0), (3, 0)] [] μ') ∧ tXo μ' (O ++ run.flatMap (lnI S t j P)) ∧ frLn μ0 μ' ∧ lnG μ' G e k (-2) ∧ lnB G μ μ' := sorry
end Ti
end
section
section Tw
variable {μ μ' μ'' μ0 : ab_M} {d : Nat} {O : List Int} {S : SF} {N : NF} {m s t j r uM pM : Nat} {h : He} {ε : Nat → Nat} {W : Nat → List We} {c uc : Nat → List Nat} {own : Nat → Nat} {P : Nat → List Int}
theorem tFst_ln (f : frLn μ0 μ) {x : Int} : ∀ cL : List Nat, tFst μ x cL = tFst μ0 x cL := sorry
theorem tSg.ln (f : frLn μ0 μ) : ∀ {cL : List Nat} {x y : Int}, tSg μ0 x cL y → tSg μ x cL y := sorry
theorem tEs.ln (f : frLn μ0 μ) : ∀ {cL : List Nat} {L : List We}, tEs S μ0 m s pM ε t cL L → tEs S μ m s pM ε t cL L := sorry
def lnQ (d m : Nat) (μ0 μ : ab_M) (G e k : Nat) (it : Int) (run : ab_R) (O : List Int) : Prop := ∃ μ1 μ', run = some ((3, 0), μ1) ∧ (ab_run wt (d + 6) 330 24 [(2, 7756), (0, m), (3, 0), (3, 0), (3, 0), (3, 0), (3, 0)] [] μ1) = (ab_run wt (d + 6) 330 24 [(2, 7756), (0, m), (3, 0), (3, 0), (3, 0), (3, 0), (3, 0)] [] μ') ∧ tXo μ' O ∧ frLn μ0 μ' ∧ lnG μ' G e k it ∧ lnB G μ μ'
theorem lnQ.of {G e k : Nat} {it : Int} {run : ab_R} {O2 : List Int} (f : frLn μ0 μ) (g : lnG μ G e k it) (z : tZ run μ O2) : lnQ d m μ0 μ G e k it run O2 := sorry
theorem lnQ.seq {G e k : Nat} {it : Int} {run : ab_R} {F : ab_M → ab_R} {O1 O2 : List Int} (f : frLn μ0 μ) (g : lnG μ G e k it) (z : tZ run μ O1) (n : ∀ μ1, tXo μ1 O1 → frLn μ0 μ1 → lnG μ1 G e k it → frML μ μ1 → lnQ d m μ0 μ1 G e k it (F μ1) O2) : lnQ d m μ0 μ G e k it (ab_cal run 3 (fun r1 μ1 => some ((4, r1), μ1)) (fun _ μ1 => F μ1)) O2 := sorry
theorem tw_lnVal {G e k i : Nat} {it : Int} {q : It} (ts : TS μ0 s S N) (m16 : m < 16) (t1 : (t : Int) < S 0 0 0) (t2 : S 2 t 0 = 1) (hj : j < fCt S t) (pm : pM ≤ 9000) (g16 : G + 1 < 16) (en : tEn S μ0 m s pM ε t i (j, q)) (i73 : i < 73600) (kn : lng q.2.2.1 ∧ byt q.2.2.2.1) (hP : S 12 t j = 12 → TLs d m μ0 ε (P q.2.2.2.2) q.2.2.2.2 (G + 1)) (f : frLn μ0 μ) (c : tXo μ O) (g : lnG μ G e k it) (ln : O.length + (lnV S (S 12 t j) (S 13 t j).toNat q.2.2.1 q.2.2.2.1 (P q.2.2.2.2)).length < 2147300000) (D : Nat) : lnQ d m μ0 μ G e k it (if S 12 t j = 12 then ab_cal (ab_run wt (D + 4) 186 0 [(2, 7756), (0, i)] [] μ) 3 (fun r1 μ1 => some ((4, r1), μ1)) (fun _ μ1 => some ((3, 0), μ1)) else ab_cal (ab_run wt (D + 4) 49 0 [(2, 7756), (0, (fX s t j))] [] μ) 0 (fun r1 μ1 => some ((4, r1), μ1)) (fun r3 μ3 => if 0 ≤ (i : Int) ∧ (i : Int) < 73600 then ab_cal (ab_run wt (D + 4) 234 0 [(2, 7756), (0, m), (0, (S 12 t j)), (0, r3), (1, (μ3 7873 i)), (3, 0), (0, (μ3 7874 i)), (0, (μ3 7875 i))] [] μ3) 3 (fun r1 μ1 => some ((4, r1), μ1)) (fun _ μ1 => some ((3, 0), μ1)) else none)) (O ++ lnV S (S 12 t j) (S 13 t j).toNat q.2.2.1 q.2.2.2.1 (P q.2.2.2.2)) := sorry
end Tw
end
section
section Tw
variable {μ μ' μ'' μ0 : ab_M} {d : Nat} {O : List Int} {S : SF} {N : NF} {m s t j r uM pM : Nat} {h : He} {ε : Nat → Nat} {W : Nat → List We} {c uc : Nat → List Nat} {own : Nat → Nat} {P : Nat → List Int}
theorem tw_st260 : ∀ (k n : Nat) (μ : ab_M) (O : List Int), k = (4 - n % 4) % 4 → n + k < 100000 → tOu μ O → O.length + k < 2147483640 → tE (ab_run wt (d + 2) 331 260 [(2, 7756), (3, 0), (3, 0), (3, 0), (3, 0), (3, 0), (0, n)] [] μ) μ (O ++ List.replicate k 0) := sorry
theorem tw_st219 {f n : Nat} (hf : f < 3600) (n60 : n ≤ 60) : ∀ (l : List Int) (k : Nat) (μ : ab_M) (O : List Int), k + l.length = n → μ 7787 f = n → tBy μ 7806 (60 * f + k) l → byt l → tOu μ O → O.length + l.length < 2147483000 → tE (ab_run wt (d + 2) 331 219 [(2, 7756), (3, 0), (3, 0), (0, f), (3, 0), (3, 0), (0, k)] [] μ) μ (O ++ (l ++ padL n)) := sorry
theorem tw_wlf {G : Nat} (H : tH S μ0 m s h.1 (fun _ => true) h.2.1 h.2.2.1 h.2.2.2 ε W c uc own uM pM) (ts : TS μ0 s S N) (hr : r < h.1) (hj : j < fCt S (h.2.1 r)) (e15 : ¬ 0 ≤ S 15 (h.2.1 r) j) (hi : hI S h) (hn : hNm S h) (n7 : n7OK S N) (g16 : G + 1 < 16) (hc : S 12 (h.2.1 r) j = 12 → ∀ q ∈ h.2.2.1 r j, TLs d m μ0 ε (P q.2.2.2.2) q.2.2.2.2 (G + 1)) (f : frLn μ0 μ) (cx : tXo μ O) (g : lnG μ G (ε r) (j + 1) (-2)) (ln : O.length + (lnJ S N (h.2.1 r) P (h.2.2.1 r) (fCt S (h.2.1 r)) j).length < 2147300000) :
    lnQ d m μ0 μ G (ε r) (j + 1) (-2) (ab_run wt (d + 5) 331 0 [(2, 7756), (0, m), (0, (ε r)), (0, (fX s (h.2.1 r) j)), (0, G), (3, 0), (3, 0)] [] μ) (O ++ lnJ S N (h.2.1 r) P (h.2.2.1 r) (fCt S (h.2.1 r)) j) := sorry
end Tw
end
