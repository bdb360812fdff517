set_option maxRecDepth 16384
section
section Tk
variable {μ μ' μ'' μ0 : ab_M} {d n p t k s m base r j uM pM G : Nat} {w w' w1 w2 : Wr} {v : Int} {l : List Int} {S : SF} {N : NF} {W W' : Nat → BitVec 64} {h : He} {ε : Nat → Nat} {Wt : Nat → List We} {c uc : Nat → List Nat} {own : Nat → Nat} {Q : Nat → Nat → Wr → Wr} {V : Nat → List It} {L : List It} {i0 : Nat}
theorem tw_bitsOfSort {k : Int} (h0 : 0 ≤ k) (h12 : k ≤ 12) (hn : k ≠ 12) : (ab_run wt (d + 1) 13 0 [(2, 7756), (0, (kSort k))] [] μ) = some ((0, if k = 9 ∨ k = 10 then 64 else kBits k), μ) := sorry
theorem swZ.opn {run : ab_R} {G : Nat} {at' : Nat} {e li : Int} (hg : μ 7756 175 = (G : Int)) (g64 : G < 64) (f : frSl μ0 μ) (cw : tWd μ w) (hk : ∀ μ', frSl μ0 μ' → tWd μ' w → swG μ' G e (at' : Int) 0 li → swZ d m (ab_run wt (d + 7) 337 98 [(2, 7756), (0, m), (3, 0), (3, 0), (3, 0), (3, 0), (3, 0)] [] μ') μ' G w2) : tSt d m (ab_cal (ab_run wt (d + 4) 189 0 [(2, 7756), (0, e), (0, ((at' : Int))), (0, li)] [] μ) 3 (fun r2 μ2 => some ((4, r2), μ2)) (fun _ μ2 => some ((3, 0), μ2))) μ G w2 := sorry
theorem tw_writeList (la : laOK S) (H : tH S μ0 m s h.1 (fun _ => true) h.2.1 h.2.2.1 h.2.2.2 ε Wt c uc own uM pM) (ts : TS μ0 s S N) (hi : hI S h) (sh : hShp S h) (t1 : (t : Int) < S 0 0 0) (t2 : S 2 t 0 = 1) (hj : j < fCt S t) (m2 : S 11 t j = 2) (hQ : ∀ r p w, w.2 ≤ (Q r p w).2) (g64 : G + 2 < 64) (hL : L ≠ []) (len : L.length ≤ 73600) (rn : tRun S μ m s pM ε t j (i0 : Int) L) (hc : S 12 t j = 12 → ∀ q ∈ L, q.2.2.2.2 < h.1 ∧ h.2.1 q.2.2.2.2 = (S 13 t j).toNat ∧ TSw d m S h Q μ0 ε q.2.2.2.2 (G + 2)) (rn0 : tRun S μ0 m s pM ε t j (i0 : Int) L) (f : frSl μ0 μ) (cw : tWd μ w) (hg : μ 7756 175 = ((G + 1 : Nat) : Int)) (hp : p < w.2) : tSt d m (ab_run wt (d + 5) 332 0 [(2, 7756), (0, m), (0, i0), (0, (fX s t j)), (0, p), (3, 0), (3, 0), (3, 0), (3, 0), (3, 0), (3, 0), (3, 0)] [] μ) μ (G + 1) (slI S h Q t j p L w) := sorry
end Tk
end
section
section Tl
variable {μ μ' μ'' μ0 : ab_M} {d n p t k s m base r j uM pM G : Nat} {w w' w1 w2 : Wr} {v : Int} {l : List Int} {S : SF} {N : NF} {W W' : Nat → BitVec 64} {h : He} {ε : Nat → Nat} {Wt : Nat → List We} {c uc : Nat → List Nat} {own : Nat → Nat} {Q : Nat → Nat → Wr → Wr} {V : Nat → List It} {L : List It} {i0 : Nat}
theorem mp_f (k12 : 0 ≤ S 12 t j ∧ S 12 t j ≤ 12) (k14 : 1 ≤ S 14 t j ∧ S 14 t j ≤ 9) : ((kBits (S 14 t j)).toNat = 0 ∧ S 14 t j = 9 ∨ ((kBits (S 14 t j)).toNat = 32 ∨ (kBits (S 14 t j)).toNat = 64) ∧ S 14 t j ≠ 9) ∧ ((kBits (S 12 t j)).toNat = 0 ∧ kBits (S 12 t j) = 0 ∨ ((kBits (S 12 t j)).toNat = 1 ∨ (kBits (S 12 t j)).toNat = 16 ∨ (kBits (S 12 t j)).toNat = 32 ∨ (kBits (S 12 t j)).toNat = 64) ∧ kBits (S 12 t j) ≠ 0 ∧ (S 12 t j ≤ 8 ∨ S 12 t j = 11) ∧ mpS S t j % 64 + (kBits (S 12 t j)).toNat ≤ 64 ∧ (kBits (S 14 t j)).toNat ≤ mpS S t j ∧ mpS S t j + (kBits (S 12 t j)).toNat ≤ 64 * mpA S t j) ∧ (kBits (S 14 t j)).toNat ≤ 64 * mpA S t j ∧ mpA S t j ≤ 2 ∧ mpB S t j ≤ 2 := sorry
theorem smJ_o {q : It} {i : Nat} (k12 : 0 ≤ S 12 t j ∧ S 12 t j ≤ 12) (k14 : 1 ≤ S 14 t j ∧ S 14 t j ≤ 9) (hi : i < p ∨ p + mpA S t j ≤ i) : smJ S t j p q W i = W i := sorry
theorem tw_wp87 {e0 : Nat} (k12 : 0 ≤ S 12 t j ∧ S 12 t j ≤ 12) (k14 : 1 ≤ S 14 t j ∧ S 14 t j ≤ 9) (f36 : fX s t j < 3600) (n6 : n ≤ 73600) : ∀ (L : List It) (k P : Nat) (x : Int) (μ : ab_M) (w : Wr), tRun S μ m s pM ε t j x L → P = base + 1 + k * (mpA S t j + mpB S t j) → k + L.length = n → tWd μ w → P + L.length * (mpA S t j + mpB S t j) ≤ w.2 → zrW w.1 P (L.length * (mpA S t j + mpB S t j)) → (μ 7756 207 = if S 14 t j = 9 then -2 else 0) → (μ 7756 208 = if kBits (S 12 t j) = 0 then -2 else ((mpS S t j : Nat) : Int)) → μ 7780 (fX s t j) = S 12 t j → μ 7782 (fX s t j) = S 14 t j → ∃ μ', (ab_run wt (d + 5) 334 87 [(2, 7756), (3, 0), (0, e0), (0, (fX s t j)), (3, 0), (0, n), (0, (((mpA S t j + mpB S t j : Nat) : Int))), (0, base), (0, x), (0, k), (3, 0)] [] μ) = ab_cal (ab_run wt (d + 4) 189 0 [(2, 7756), (0, e0), (0, (((base + 1 : Nat) : Int))), (0, (fX s t j))] [] μ') 3 (fun r2 μ2 => some ((4, r2), μ2)) (fun _ μ2 => some ((3, 0), μ2)) ∧ tWd μ' (smL S t j (mpA S t j + mpB S t j) P L w.1, w.2) ∧ frSv μ μ' := sorry
theorem tw_writePairs (la : laOK S) (H : tH S μ0 m s h.1 (fun _ => true) h.2.1 h.2.2.1 h.2.2.2 ε Wt c uc own uM pM) (ts : TS μ0 s S N) (hi : hI S h) (sh : hShp S h) (t1 : (t : Int) < S 0 0 0) (t2 : S 2 t 0 = 1) (hj : j < fCt S t) (m3 : S 11 t j = 3) (hQ : ∀ r p w, w.2 ≤ (Q r p w).2) (g64 : G + 2 < 64) (hL : L ≠ []) (len : L.length ≤ 73600) (hc : S 12 t j = 12 → ∀ q ∈ L, q.2.2.2.2 < h.1 ∧ TSw d m S h Q μ0 ε q.2.2.2.2 (G + 2)) (rn0 : tRun S μ0 m s pM ε t j (i0 : Int) L) (f : frSl μ0 μ) (cw : tWd μ w) (hg : μ 7756 175 = ((G + 1 : Nat) : Int)) (hp : p < w.2) : tSt d m (ab_run wt (d + 5) 334 0 [(2, 7756), (0, m), (0, i0), (0, (fX s t j)), (0, p), (3, 0), (3, 0), (3, 0), (3, 0), (3, 0), (3, 0)] [] μ) μ (G + 1) (slI S h Q t j p L w) := sorry
end Tl
end
section
section Tm
variable {μ μ' μ'' μ0 : ab_M} {d n p t k s m base r j uM pM G : Nat} {w w' w1 w2 : Wr} {v : Int} {l : List Int} {S : SF} {N : NF} {W W' : Nat → BitVec 64} {h : He} {ε : Nat → Nat} {Wt : Nat → List We} {c uc : Nat → List Nat} {own : Nat → Nat} {Q : Nat → Nat → Wr → Wr} {V : Nat → List It} {L : List It} {i0 : Nat}
theorem frSl.symm (f : frSl μ μ') : frSl μ' μ := sorry
theorem swZ.end (cw : tWd μ w) : swZ d m (ab_run wt (d + 7) 337 98 [(2, 7756), (0, m), (3, 0), (3, 0), (3, 0), (3, 0), (3, 0)] [] (ab_up μ 7756 175 G)) μ G w := sorry
theorem swG.ptr {e at' pt : Int} (g : swG μ G e at' pt (-2)) (cw : tWd μ w) (g64 : G < 64) : (ab_run wt (d + 7) 337 98 [(2, 7756), (0, m), (3, 0), (3, 0), (3, 0), (3, 0), (3, 0)] [] μ) = ab_cal (ab_run wt (d + 6) 335 0 [(2, 7756), (0, m), (0, ((G : Int))), (3, 0), (3, 0), (3, 0), (3, 0), (3, 0), (3, 0)] [] μ) 3 (fun r1 μ1 => some ((4, r1), μ1)) (fun _ μ1 => (ab_run wt (d + 7) 337 98 [(2, 7756), (0, m), (3, 0), (3, 0), (3, 0), (3, 0), (3, 0)] [] μ1)) := sorry
theorem tw_wptr (la : laOK S) (H : tH S μ0 m s h.1 (fun _ => true) h.2.1 h.2.2.1 h.2.2.2 ε Wt c uc own uM pM) (ts : TS μ0 s S N) (hr : r < h.1) (hi : hI S h) (sh : hShp S h) (hQ : ∀ r p w, w.2 ≤ (Q r p w).2) (g64 : G + 2 < 64) (hc : ∀ j, j < fCt S (h.2.1 r) → S 12 (h.2.1 r) j = 12 → ∀ q ∈ h.2.2.1 r j, TSw d m S h Q μ0 ε q.2.2.2.2 (G + 1) ∧ TSw d m S h Q μ0 ε q.2.2.2.2 (G + 2)) (at' : Nat) :
    ∀ (q pp : Nat) (μ : ab_M) (w : Wr), pp + q = (S 6 (h.2.1 r) 0).toNat → frSl μ0 μ → tWd μ w → swG μ G (ε r) (at' : Int) pp (-2) → at' + (S 5 (h.2.1 r) 0).toNat + (S 6 (h.2.1 r) 0).toNat ≤ w.2 → swZ d m (ab_run wt (d + 7) 337 98 [(2, 7756), (0, m), (3, 0), (3, 0), (3, 0), (3, 0), (3, 0)] [] μ) μ G (spP S h Q (h.2.1 r) (at' + (S 5 (h.2.1 r) 0).toNat) (h.2.2.1 r) q pp w) := sorry
theorem tw_TSw (la : laOK S) (H : tH S μ0 m s h.1 (fun _ => true) h.2.1 h.2.2.1 h.2.2.2 ε Wt c uc own uM pM) (ts : TS μ0 s S N) (hi : hI S h) (sh : hShp S h) : ∀ (f r G dp : Nat), r < h.1 → h.1 ≤ r + f → dpL S h f r dp → G + 2 ≤ 2 * dp → TSw d m S h (slQ S h f) μ0 ε r G := sorry
end Tm
end
section
section Tn
variable {μ μ' μ'' μ0 : ab_M} {d : Nat} {O : List Int} {S : SF} {N : NF} {m s : Nat} {h : He} {w : Wr}
theorem wB_at2 {x : BitVec 64} {k : Nat} (hk : k < 8) : (wB x)[k]? = some (w32 (and64 (ushr64 x.toInt ((8 * k : Nat) : Int)) 255) % 256) := sorry
theorem tw_wm24 {x : BitVec 64} {i : Nat} (i5 : i < 700) : ∀ (m k : Nat) (μ : ab_M) (O : List Int), k + m = 8 → tOu μ O → O.length ≤ 8 * i + k → μ 7907 i = x.toInt → ∃ μ', (ab_run wt (d + 2) 327 24 [(2, 7756), (0, i), (0, (((8 * k : Nat) : Int)))] [] μ) = (ab_run wt (d + 2) 327 7 [(2, 7756), (0, (((i + 1 : Nat) : Int))), (3, 0)] [] μ') ∧ tOu μ' (O ++ (wB x).drop k) ∧ frM2 μ μ' := sorry
theorem tw_wm7 : ∀ (m i : Nat) (μ : ab_M) (O : List Int), i + m = w.2 → tOu μ O → O.length = 8 * i → tWd μ w → R3 (ab_run wt (d + 2) 327 7 [(2, 7756), (0, i), (3, 0)] [] μ) (fun μ' => (w.2 ≤ 700 → tOu μ' (O ++ swF w.1 m i)) ∧ (500 < w.2 → 4000 < μ' 7756 172) ∧ frM2 μ μ') := sorry
theorem tw_wordsToMade (cw : tWd μ w) : R3 (ab_run wt (d + 2) 327 0 [(2, 7756), (3, 0), (3, 0)] [] μ) (fun μ' => (w.2 ≤ 700 → tOu μ' (swB w)) ∧ (500 < w.2 → 4000 < μ' 7756 172) ∧ frM2 μ μ') := sorry
theorem tw_writeSlotted (hm : m < 12) (mt : mT S N μ m s h) (la : laOK S) (sh : hShp S h) : ∃ μ', (ab_run wt (d + 7) 337 0 [(2, 7756), (0, m), (3, 0), (3, 0), (3, 0), (3, 0), (3, 0)] [] μ) = some ((0, if (slM S h).2 ≤ 23000 then 1 else 0), μ') ∧ ((slM S h).2 ≤ 23000 → tWd μ' (slM S h)) ∧ frSl μ μ' := sorry
theorem tw_encode2 {row : Nat} (hm : m < 12) (hr : row < 8) (la : laOK S) (sh : hShp S h) (z : μ 7862 m = 1) (mt : mT S N μ m s h) :
    R0 (ab_run wt (d + 9) 44 0 [(2, 7756), (0, m), (0, 2), (0, row)] [] μ) (fun v μ' => (∀ a i, a ≠ 7887 → a ≠ 7860 → (a < 7907 ∨ 7911 < a) → (a ≠ 7756 ∨ i ≠ 172 ∧ i ≠ 175 ∧ i ≠ 130 ∧ (i < 204 ∨ 210 < i)) → (a ≠ 7759 ∨ i ≠ row) → (a ≠ 7758 ∨ i < 4000 * row ∨ 4000 * row + 4000 ≤ i) → μ' a i = μ a i) ∧ if 500 < (slM S h).2 then v = -3 ∧ (∀ a i, a = 7759 ∨ a = 7758 → μ' a i = μ a i) else v = (swB (slM S h)).length ∧ μ' 7759 row = (swB (slM S h)).length ∧ tBy μ' 7758 (4000 * row) (swB (slM S h))) := sorry
end Tn
end
section
section Sq
variable {S : SF} {h g : He} {t n j base : Nat} {Q Q' : Nat → Nat → Wr → Wr} {v v' : Nat → List It} {W : Nat → BitVec 64} {w : Wr}
def slE (S : SF) (h g : He) (Q Q' : Nat → Nat → Wr → Wr) (r r' : Nat) : Prop := h.2.1 r = g.2.1 r' ∧ (∀ base W, sdR S h r base W = sdR S g r' base W) ∧ ∀ p w, Q r p w = Q' r' p w
theorem slE.sl {r r' p : Nat} (e : slE S h g Q Q' r r') : slR S h Q r p w = slR S g Q' r' p w := sorry
theorem sdJ_eq {R : Nat → Nat → Prop} {b : Bool} {L L' : List It} (e : itsE R b L L') : sdJ S t base j L W = sdJ S t base j L' W := sorry
theorem sdF_eq (ei : ∀ k, k < n → ∃ R b, itsE R b (v k) (v' k)) : ∀ (q j : Nat) (W : Nat → BitVec 64), j + q = n → sdF S t base v q j W = sdF S t base v' q j W := sorry
theorem itsE.slw {R : Nat → Nat → Prop} {b : Bool} {each : Nat} {kind : Int} : ∀ {L L' : List It}, itsE R b L L' → L.length = L'.length ∧ (∀ bb k W, slN base bb k L W = slN base bb k L' W) ∧ (∀ k w, slT kind base k L w = slT kind base k L' w) ∧ ∀ p W, smL S t j each p L W = smL S t j each p L' W := sorry
theorem itsE.slp {each : Nat} (z : S 12 t j = 12) : ∀ {L L' : List It}, itsE (slE S h g Q Q') (decide (S 12 t j = 12)) L L' → (∀ p W, sdL S h each p L W = sdL S g each p L' W) ∧ (∀ p w, spL Q each p L w = spL Q' each p L' w) := sorry
theorem itsE.smp {each : Nat} : ∀ {L L' : List It}, itsE (slE S h g Q Q') (decide (S 12 t j = 12)) L L' → ∀ p w, smP S h Q t j each p L w = smP S g Q' t j each p L' w := sorry
theorem spJ_eq {p : Nat} {L L' : List It} (e : itsE (slE S h g Q Q') (decide (S 12 t j = 12)) L L') : spJ S h Q t base p j L w = spJ S g Q' t base p j L' w := sorry
theorem spF_eq {p : Nat} (ei : ∀ k, k < n → itsE (slE S h g Q Q') (decide (S 12 t k = 12)) (v k) (v' k)) : ∀ (q j : Nat) (w : Wr), j + q = n → spF S h Q t base p v q j w = spF S g Q' t base p v' q j w := sorry
theorem spP_eq (ei : ∀ k, k < fCt S t → itsE (slE S h g Q Q') (decide (S 12 t k = 12)) (v k) (v' k)) : ∀ (q p : Nat) (w : Wr), spP S h Q t base v q p w = spP S g Q' t base v' q p w := sorry
theorem eqT.sl : ∀ {f r r' : Nat}, eqT S h g f r r' → slE S h g (slQ S h f) (slQ S g f) r r' := sorry
theorem slQ_st {al : Nat → Bool} (dn : hDn S h al) : ∀ (c c' r : Nat), r < h.1 → al r = true → h.1 ≤ r + c → h.1 ≤ r + c' → ∀ p w, slQ S h c r p w = slQ S h c' r p w := sorry
theorem slM_eq {al al' : Nat → Bool} (e : hEq S h g) (dn : hDn S h al) (a0 : al 0 = true) (h0 : 0 < h.1) (dn' : hDn S g al') (a0' : al' 0 = true) (g0 : 0 < g.1) : slM S h = slM S g := sorry
end Sq
end
section
section Sx
abbrev Sx := He × Nat × Nat × Nat × Nat × Nat
abbrev Rx := Nat → Nat → Nat → Nat → Nat → Nat → Sx → Flt ⊕ Sx
def wdT (T : Nat → Int) (k : Nat) : BitVec 64 := BitVec.ofInt 64 (T (8 * k) + 256 * T (8 * k + 1) + 65536 * T (8 * k + 2) + 16777216 * T (8 * k + 3) + 4294967296 * T (8 * k + 4) + 1099511627776 * T (8 * k + 5) + 281474976710656 * T (8 * k + 6) + 72057594037927936 * T (8 * k + 7))
def bt (T : Nat → Int) (at' data p n : Nat) : BitVec 64 := if 64 * data ≤ p then 0 else (wdT T (at' + p / 64) >>> (p % 64)) &&& mkB n
noncomputable def aimI (T : Nat → Int) (p : Nat) : Int := (p : Int) + 1 + w32 (wdT T p).toInt / 4
def wD (x : BitVec 64) : Nat := x.toNat / 4294967296 % 65536
def wP (x : BitVec 64) : Nat := x.toNat / 281474976710656
noncomputable def dFR (T : Nat → Int) (n p dp w : Nat) : Flt ⊕ (Nat × Nat × Nat × Nat) :=
  if (wdT T p).toNat % 4 ≠ 0 then .inl (2, 8 * (p : Int)) else if aimI T p < 0 ∨ (n : Int) < aimI T p + ((wD (wdT T p) + wP (wdT T p) : Nat) : Int) then .inl (3, 8 * (p : Int)) else if 1000 < w + max 1 (wD (wdT T p) + wP (wdT T p)) then .inl (7, 8 * (p : Int)) else if 12 < dp then .inl (6, 8 * (p : Int)) else .inr ((aimI T p).toNat, wD (wdT T p), wP (wdT T p), w + max 1 (wD (wdT T p) + wP (wdT T p)))
def dAll (own c : Nat) : Nat := if own = 0 then 0 else if own = 1 then (c + 63) / 64 else if own = 2 then (c + 7) / 8 else if own = 3 then (c + 3) / 4 else if own = 4 then (c + 1) / 2 else if own = 7 then c + 1 else c
def wO (x : BitVec 64) : Nat := x.toNat / 4294967296 % 8
def wC (x : BitVec 64) : Nat := x.toNat / 34359738368
noncomputable def dFL (T : Nat → Int) (n p sort w : Nat) : Flt ⊕ (Nat × Nat × Nat) :=
  if (wdT T p).toNat % 4 ≠ 1 then .inl (2, 8 * (p : Int)) else if aimI T p < 0 ∨ (n : Int) < aimI T p + ((dAll (wO (wdT T p)) (wC (wdT T p)) : Nat) : Int) then .inl (3, 8 * (p : Int)) else if wO (wdT T p) ≠ sort then .inl (4, 8 * (p : Int)) else if 1000 < w + max 1 (dAll (wO (wdT T p)) (wC (wdT T p))) then .inl (7, 8 * (p : Int)) else .inr ((aimI T p).toNat, wC (wdT T p), w + max 1 (dAll (wO (wdT T p)) (wC (wdT T p))))
noncomputable def dBy (T : Nat → Int) (n : Nat) (k : Int) (p w : Nat) : Flt ⊕ (List Int × Nat) := if wdT T p = 0 then .inr ([], w) else match dFL T n p 2 w with
  | .inl g => .inl g
  | .inr (b, c, w') => if k = 9 then (if c = 0 ∨ T (8 * b + (c - 1)) ≠ 0 ∨ utf (slc T (8 * b) (c - 1)) = false then .inl (5, 8 * (p : Int)) else .inr (slc T (8 * b) (c - 1), w')) else .inr (slc T (8 * b) c, w')
noncomputable def dBo (T : Nat → Int) (n : Nat) (k : Int) (is : Prop) [Decidable is] (p w : Nat) : Flt ⊕ (List Int × Nat) := if is then dBy T n k p w else .inr ([], w)
def onN (S : SF) (t o : Nat) : Nat → Nat → Nat
  | 0, _ => 0
  | m + 1, k => (if S 15 t k = (o : Int) then 1 else 0) + onN S t o m (k + 1)
def tgBad (S : SF) (T : Nat → Int) (t at' data : Nat) : Prop := ∃ o : Nat, (o : Int) < S 4 t 0 ∧ onN S t o (fCt S t) 0 < (bt T at' data (S 30 t o).toNat 16).toNat
abbrev chs (S : SF) (T : Nat → Int) (t at' data j : Nat) : Prop := (bt T at' data (S 18 t j).toNat 16).toNat = tgO S t j
noncomputable def dVl (S : SF) (T : Nat → Int) (t at' data j : Nat) : Option Int := if 2 ≤ S 11 t j ∨ S 16 t j < 0 then none
  else if 0 ≤ S 15 t j then (if chs S T t at' data j then some (kCut (S 12 t j) (bt T at' data (S 16 t j).toNat 64).toInt) else none)
  else if S 11 t j = 1 then (if bt T at' data (S 18 t j).toNat 1 = 0 then none else some (kCut (S 12 t j) (bt T at' data (S 16 t j).toNat (kBits (S 12 t j)).toNat).toInt))
  else some (kCut (S 12 t j) (xor64 (bt T at' data (S 16 t j).toNat (kBits (S 12 t j)).toNat).toInt (S 19 t j)))
noncomputable def dPut (S : SF) (N : NF) (g : Bool) (r j : Nat) (v : Int) (l : List Int) (σ : Sx) : Sx := if g = true ∧ 3400 < σ.2.1 then (σ.1, σ.2.1, σ.2.2.1 + (if dfB S N (σ.1.2.1 r) j v l = true then 0 else 1), σ.2.2.2) else (hSet S N σ.1 r j (0, []) v l, σ.2.1 + (if dfB S N (σ.1.2.1 r) j v l = true then 0 else 1), σ.2.2.1, σ.2.2.2)
noncomputable def dRn (S : SF) (g : Bool) (r j : Nat) (σ : Sx) : Sx := if g = true then (if 3400 < σ.2.1 then (σ.1, σ.2.1, σ.2.2.1 + 1, σ.2.2.2) else (hRec S σ.1 r j (0, []), σ.2.1 + 1, σ.2.2.1, σ.2.2.2)) else if σ.1.1 ≤ 401 then (hRec S σ.1 r j (0, []), σ.2.1 + 1, σ.2.2.1, σ.2.2.2) else σ
noncomputable def dNs (S : SF) (N : NF) (g : Bool) (T : Nat → Int) (r t at' data : Nat) : Nat → Nat → Sx → Sx
  | 0, _, σ => σ
  | q + 1, i, σ => dNs S N g T r t at' data q (i + 1) (match dVl S T t at' data (S 20 t i).toNat with
    | none => σ
    | some v => dPut S N g r (S 20 t i).toNat v [] σ)
def sxW (σ : Sx) (w : Nat) : Sx := (σ.1, σ.2.1, σ.2.2.1, w, σ.2.2.2.2)
def sxB (σ : Sx) (w k : Nat) : Sx := (σ.1, σ.2.1, σ.2.2.1, w, σ.2.2.2.2.1, σ.2.2.2.2.2 + k)
def sxL (σ : Sx) (w L : Nat) : Sx := (σ.1, σ.2.1, σ.2.2.1, w, L, σ.2.2.2.2.2)
def sxH (σ : Sx) (h : He) : Sx := (h, σ.2.1 + 1, σ.2.2)
noncomputable def dIt (S : SF) (N : NF) (g : Bool) (T : Nat → Int) (n r j b : Nat) (k : Int) : Nat → Nat → Sx → Flt ⊕ Sx
  | 0, _, σ => .inr σ
  | q + 1, i, σ => if k = 9 ∨ k = 10 then (match dBy T n k (b + i) σ.2.2.2.1 with
      | .inl f => .inl f
      | .inr (l, w) => dIt S N g T n r j b k q (i + 1) (dPut S N g r j 0 l (sxB σ w l.length)))
    else dIt S N g T n r j b k q (i + 1) (dPut S N g r j (kCut k (bt T b (n - b) (i * (kBits k).toNat) (kBits k).toNat).toInt) [] σ)
noncomputable def dKy (S : SF) (T : Nat → Int) (n t j pos d ps w : Nat) : Flt ⊕ (Int × List Int × Nat) := if S 14 t j = 9 then (match dBo T n 9 (0 < ps) (pos + d) w with
    | .inl f => .inl f
    | .inr (l, w') => .inr (0, l, w'))
  else .inr (kCut (S 14 t j) (bt T pos d 0 (kBits (S 14 t j)).toNat).toInt, [], w)
def dPi (S : SF) (t j : Nat) : Nat := if S 14 t j = 9 then 1 else 0
noncomputable def dPr (S : SF) (N : NF) (T : Nat → Int) (n : Nat) (rec : Rx) (r t j dp pos d ps : Nat) (key : Int × List Int) (σ : Sx) : Flt ⊕ Sx :=
  if S 12 t j = 12 then (if dPi S t j < ps ∧ wdT T (pos + d + dPi S t j) ≠ 0 then (match dFR T n (pos + d + dPi S t j) (dp + 1) σ.2.2.2.1 with
      | .inl f => .inl f
      | .inr (b, d', p', w) => rec σ.1.1 (S 13 t j).toNat (dp + 1) b d' p' (sxH (sxW σ w) (hIr S σ.1 r j key)))
    else if 12 < dp + 1 then .inl (6, 8 * (((if dPi S t j < ps then pos + d + dPi S t j else pos) : Nat) : Int)) else .inr (sxH σ (hIr S σ.1 r j key)))
  else if S 12 t j = 9 ∨ S 12 t j = 10 then (match dBo T n (S 12 t j) (dPi S t j < ps) (pos + d + dPi S t j) σ.2.2.2.1 with
    | .inl f => .inl f
    | .inr (l, w) => .inr (sxH (sxB σ w l.length) (hIs S N σ.1 r j key 0 l)))
  else .inr (sxH σ (hIs S N σ.1 r j key (kCut (S 12 t j) (bt T pos d (mpS S t j) (kBits (S 12 t j)).toNat).toInt) []))
noncomputable def dRw (S : SF) (N : NF) (T : Nat → Int) (n : Nat) (rec : Rx) (r t j dp q d ps : Nat) : Nat → Nat → Option (Int × List Int) → Sx → Flt ⊕ Sx
  | 0, _, _, σ => .inr σ
  | m + 1, pos, last, σ => if S 11 t j = 3 then (match dKy S T n t j pos d ps σ.2.2.2.1 with
      | .inl f => .inl f
      | .inr (v, l, w) => if 0 ≤ lsC (S 14 t j) last v l then .inl (10, 8 * (q : Int)) else if kDp (S 14 t j) v l (σ.1.2.2.1 r j) ≠ [] then .inl ovr else match dPr S N T n rec r t j dp pos d ps (v, l) (sxB σ w l.length) with
        | .inl f => .inl f
        | .inr σ' => dRw S N T n rec r t j dp q d ps m (pos + (d + ps)) (some (v, l)) σ')
    else match rec σ.1.1 (S 13 t j).toNat (dp + 1) pos d ps (sxH σ (hIr S σ.1 r j (0, []))) with
      | .inl f => .inl f
      | .inr σ' => dRw S N T n rec r t j dp q d ps m (pos + (d + ps)) none σ'
noncomputable def dLs (S : SF) (N : NF) (g : Bool) (T : Nat → Int) (n : Nat) (rec : Rx) (r t j dp q : Nat) (σ : Sx) : Flt ⊕ Sx :=
  if S 11 t j = 3 ∨ S 12 t j = 12 then (match dFL T n q 7 σ.2.2.2.1 with
    | .inl f => .inl f
    | .inr (b, c, w) => if S 11 t j = 2 ∧ 12 < dp + 1 then .inl (6, 8 * (q : Int)) else if (wdT T b).toNat % 4 ≠ 0 ∨ (wdT T b).toNat % 4294967296 / 4 * (wD (wdT T b) + wP (wdT T b)) ≠ c then .inl (9, 8 * (b : Int)) else if 400 < σ.2.2.2.2.1 + (wdT T b).toNat % 4294967296 / 4 then .inl (7, 8 * (q : Int)) else dRw S N T n rec r t j dp q (wD (wdT T b)) (wP (wdT T b)) ((wdT T b).toNat % 4294967296 / 4) (b + 1) none (sxL σ w (σ.2.2.2.2.1 + (wdT T b).toNat % 4294967296 / 4)))
  else match dFL T n q (kSort (S 12 t j)).toNat σ.2.2.2.1 with
    | .inl f => .inl f
    | .inr (b, c, w) => if 400 < σ.2.2.2.2.1 + c then .inl (7, 8 * (q : Int)) else dIt S N g T n r j b (S 12 t j) c 0 (sxL σ w (σ.2.2.2.2.1 + c))
noncomputable def dPt (S : SF) (N : NF) (g : Bool) (T : Nat → Int) (n : Nat) (rec : Rx) (r t j dp q : Nat) (σ : Sx) : Flt ⊕ Sx :=
  if 2 ≤ S 11 t j then dLs S N g T n rec r t j dp q σ
  else if S 12 t j = 12 then (match dFR T n q (dp + 1) σ.2.2.2.1 with
    | .inl f => .inl f
    | .inr (b, d, p', w) => rec σ.1.1 (S 13 t j).toNat (dp + 1) b d p' (sxH (sxW σ w) (hRec S σ.1 r j (0, []))))
  else match dBy T n (S 12 t j) q σ.2.2.2.1 with
    | .inl f => .inl f
    | .inr (l, w) => .inr (dPut S N g r j 0 l (sxB σ w l.length))
noncomputable def dNo (S : SF) (N : NF) (g : Bool) (r t j dp z : Nat) (σ : Sx) : Flt ⊕ Sx :=
  if 2 ≤ S 11 t j then .inr σ else if S 12 t j = 12 then (if S 15 t j < 0 then .inr σ else if 12 < dp + 1 then .inl (6, 8 * (z : Int)) else .inr (dRn S g r j σ))
  else if S 11 t j = 1 ∨ 0 ≤ S 15 t j then .inr (dPut S N g r j 0 [] σ) else .inr σ
abbrev dIs (S : SF) (T : Nat → Int) (t at' data p j : Nat) : Prop := S 17 t j = (p : Int) ∧ (0 ≤ S 15 t j → chs S T t at' data j) ∧ (S 15 t j < 0 → 0 ≤ S 18 t j → bt T at' data (S 18 t j).toNat 1 ≠ 0)
noncomputable def dPj (S : SF) (N : NF) (g : Bool) (T : Nat → Int) (n : Nat) (rec : Rx) (r t dp at' data ps p j : Nat) (σ : Sx) : Flt ⊕ Sx :=
  if dIs S T t at' data p j then (if p < ps ∧ wdT T (at' + data + p) ≠ 0 then dPt S N g T n rec r t j dp (at' + data + p) σ else dNo S N g r t j dp (if p < ps then at' + data + p else at') σ) else .inr σ
noncomputable def dJs (S : SF) (N : NF) (g : Bool) (T : Nat → Int) (n : Nat) (rec : Rx) (r t dp at' data ps p : Nat) : Nat → Nat → Sx → Flt ⊕ Sx
  | 0, _, σ => .inr σ
  | q + 1, j, σ => match dPj S N g T n rec r t dp at' data ps p j σ with
    | .inl f => .inl f
    | .inr σ' => dJs S N g T n rec r t dp at' data ps p q (j + 1) σ'
noncomputable def dPs (S : SF) (N : NF) (g : Bool) (T : Nat → Int) (n : Nat) (rec : Rx) (r t dp at' data ps : Nat) : Nat → Nat → Sx → Flt ⊕ Sx
  | 0, _, σ => .inr σ
  | q + 1, p, σ => match dJs S N g T n rec r t dp at' data ps p (fCt S t) 0 σ with
    | .inl f => .inl f
    | .inr σ' => dPs S N g T n rec r t dp at' data ps q (p + 1) σ'
noncomputable def dBd (S : SF) (N : NF) (g : Bool) (T : Nat → Int) (n : Nat) (rec : Rx) (r t dp at' data ps : Nat) (σ : Sx) : Flt ⊕ Sx := @ite _ (tgBad S T t at' data) (Classical.propDecidable _) (.inl (8, 8 * (at' : Int))) (dPs S N g T n rec r t dp at' data ps (S 6 t 0).toNat 0 (dNs S N g T r t at' data (fCt S t) 0 σ))
noncomputable def dRec (S : SF) (N : NF) (g : Bool) (T : Nat → Int) (n : Nat) : Nat → Rx
  | 0 => fun _ _ _ _ _ _ _ => .inl ovr
  | c + 1 => fun r t dp at' data ps σ => dBd S N g T n (dRec S N g T n c) r t dp at' data ps σ
noncomputable def dDx (S : SF) (N : NF) (g : Bool) (T : Nat → Int) (n t : Nat) : Flt ⊕ Sx := if n = 0 ∨ n % 8 ≠ 0 then .inl (1, (n : Int)) else match dFR T (n / 8) 0 1 0 with
  | .inl f => .inl f
  | .inr (b, d, p, w) => dRec S N g T (n / 8) 12 0 t 1 b d p (hNew t, 1, 0, w, 0, 0)
end Sx
end
section
section Sy
variable {S : SF} {N : NF} {h h' h'' : He} {D D' D'' : Nat → Nat} {r j e p n t at' data ps dp : Nat} {T : Nat → Int} {k : Int} {g : Bool} {σ σ' σ'' : Sx}
def rxQ (S : SF) (r : Nat) (σ σ' : Sx) (D D' : Nat → Nat) : Prop := hIn S σ'.1 D' ∧ (∀ x, x < σ.1.1 → D' x = D x) ∧ hKp r σ.1 σ'.1
theorem rxQ.trans (x : rxQ S r σ σ' D D') (y : rxQ S r σ' σ'' D' D'') : rxQ S r σ σ'' D D'' := sorry
theorem rxQ.le {r' : Nat} (x : rxQ S r σ σ' D D') (l : r' ≤ r) : rxQ S r' σ σ' D D' := sorry
theorem rxQ.id (i : hIn S σ.1 D) (e : σ'.1 = σ.1) : rxQ S r σ σ' D D := sorry
theorem kCut_lng {v : Int} (h : lng v) : lng (kCut k v) := sorry
theorem bv_lng (x : BitVec 64) : lng x.toInt := sorry
theorem dFL_ok {sort w b c w' : Nat} (e : dFL T n p sort w = .inr (b, c, w')) : b + dAll sort c ≤ n ∧ w' = w + max 1 (dAll sort c) ∧ w' ≤ 1000 ∧ c = wC (wdT T p) ∧ (b : Int) = aimI T p := sorry
theorem dFR_ok {w b d p' w' : Nat} (e : dFR T n p dp w = .inr (b, d, p', w')) : b + d + p' ≤ n ∧ w' = w + max 1 (d + p') ∧ w' ≤ 1000 ∧ dp ≤ 12 ∧ d < 65536 ∧ p' < 65536 := sorry
theorem dBy_ok {w : Nat} {l : List Int} {w' : Nat} (hT : ∀ k, k < 8 * n → 0 ≤ T k ∧ T k < 256) (e : dBy T n k p w = .inr (l, w')) : byt l ∧ w ≤ w' ∧ l.length + 8 * w ≤ 8 * w' ∧ (w ≤ 1000 → w' ≤ 1000) := sorry
theorem dBo_ok {w : Nat} {l : List Int} {w' : Nat} {is : Prop} [Decidable is] (hT : ∀ k, k < 8 * n → 0 ≤ T k ∧ T k < 256) (e : dBo T n k is p w = .inr (l, w')) : byt l ∧ w ≤ w' ∧ l.length + 8 * w ≤ 8 * w' ∧ (w ≤ 1000 → w' ≤ 1000) := sorry
def RxK (S : SF) (rec : Rx) : Prop := ∀ (r t dp at' data ps : Nat) (σ σ' : Sx) (D : Nat → Nat), rec r t dp at' data ps σ = .inr σ' → hIn S σ.1 D → r < σ.1.1 → σ.1.2.1 r = t → D r = dp → ∃ D', rxQ S r σ σ' D D'
theorem dPut_K {v : Int} {l : List Int} (i : hIn S σ.1 D) (ok : scOK S N) (hr : r < σ.1.1) (ht : σ.1.2.1 r = t) (hj : j < fCt S t) (m3 : S 11 t j ≠ 3) (h12 : S 12 t j ≠ 12) (h1 : S 12 t j ≠ 9 → S 12 t j ≠ 10 → l = []) (h2 : S 12 t j = 9 ∨ S 12 t j = 10 → v = 0) (hv : lng v) (hl : byt l) : rxQ S r σ (dPut S N g r j v l σ) D D := sorry
theorem dRn_K (i : hIn S σ.1 D) (ok : scOK S N) (hr : r < σ.1.1) (ht : σ.1.2.1 r = t) (hj : j < fCt S t) (m3 : S 11 t j ≠ 3) (h12 : S 12 t j = 12) (hd : D r + 1 ≤ 12) : ∃ D', rxQ S r σ (dRn S g r j σ) D D' := sorry
theorem dVl_ok {v : Int} (la : laOK S) (t1 : (t : Int) < S 0 0 0) (t2 : S 2 t 0 = 1) (hj : j < fCt S t) (e : dVl S T t at' data j = some v) : S 11 t j < 2 ∧ (S 12 t j ≤ 8 ∨ S 12 t j = 11) ∧ lng v := sorry
theorem dNs_K (la : laOK S) (bn : bnOK S) (ok : scOK S N) (t1 : (t : Int) < S 0 0 0) (t2 : S 2 t 0 = 1) : ∀ (q i : Nat) (σ : Sx), i + q = fCt S t → hIn S σ.1 D → r < σ.1.1 → σ.1.2.1 r = t → rxQ S r σ (dNs S N g T r t at' data q i σ) D D := sorry
theorem dIt_K (ok : scOK S N) (hT : ∀ k, k < 8 * n → 0 ≤ T k ∧ T k < 256) {b : Nat} (m2 : S 11 t j = 2) (h12 : S 12 t j ≠ 12) (hj : j < fCt S t) : ∀ (q i : Nat) (σ σ' : Sx), dIt S N g T n r j b (S 12 t j) q i σ = .inr σ' → hIn S σ.1 D → r < σ.1.1 → σ.1.2.1 r = t → rxQ S r σ σ' D D := sorry
theorem dKy_ok {pos d w w' : Nat} {v : Int} {l : List Int} (hT : ∀ k, k < 8 * n → 0 ≤ T k ∧ T k < 256) (e : dKy S T n t j pos d ps w = .inr (v, l, w')) : ((lng v ∧ byt l) ∧ (S 14 t j ≠ 9 → l = []) ∧ (S 14 t j = 9 → v = 0)) ∧ w ≤ w' ∧ l.length + 8 * w ≤ 8 * w' ∧ (w ≤ 1000 → w' ≤ 1000) := sorry
theorem dPr_K {rec : Rx} (hk : RxK S rec) (ok : scOK S N) (hT : ∀ k, k < 8 * n → 0 ≤ T k ∧ T k < 256) {pos d : Nat} {key : Int × List Int} (e : dPr S N T n rec r t j dp pos d ps key σ = .inr σ') (i : hIn S σ.1 D) (hr : r < σ.1.1) (ht : σ.1.2.1 r = t) (hj : j < fCt S t) (hd : D r = dp) (kk : S 11 t j = 3 → (lng key.1 ∧ byt key.2) ∧ (S 14 t j ≠ 9 → key.2 = []) ∧ (S 14 t j = 9 → key.1 = 0)) : ∃ D', rxQ S r σ σ' D D' := sorry
theorem dRw_K {rec : Rx} (hk : RxK S rec) (ok : scOK S N) (hT : ∀ k, k < 8 * n → 0 ≤ T k ∧ T k < 256) {q d : Nat} (hj : j < fCt S t) (m23 : S 11 t j = 3 ∨ S 11 t j = 2 ∧ S 12 t j = 12 ∧ dp + 1 ≤ 12) : ∀ (m pos : Nat) (last : Option (Int × List Int)) (σ σ' : Sx) (D : Nat → Nat), dRw S N T n rec r t j dp q d ps m pos last σ = .inr σ' → hIn S σ.1 D → r < σ.1.1 → σ.1.2.1 r = t → D r = dp → ∃ D', rxQ S r σ σ' D D' := sorry
theorem dPt_K {rec : Rx} (hk : RxK S rec) (ok : scOK S N) (hT : ∀ k, k < 8 * n → 0 ≤ T k ∧ T k < 256) {q : Nat} (e : dPt S N g T n rec r t j dp q σ = .inr σ') (i : hIn S σ.1 D) (hr : r < σ.1.1) (ht : σ.1.2.1 r = t) (hj : j < fCt S t) (hd : D r = dp) (nm : S 11 t j < 2 → ¬ (S 12 t j ≤ 8 ∨ S 12 t j = 11)) : ∃ D', rxQ S r σ σ' D D' := sorry
theorem dPj_K {rec : Rx} (hk : RxK S rec) (la : laOK S) (ok : scOK S N) (hT : ∀ k, k < 8 * n → 0 ≤ T k ∧ T k < 256) (e : dPj S N g T n rec r t dp at' data ps p j σ = .inr σ') (i : hIn S σ.1 D) (hr : r < σ.1.1) (ht : σ.1.2.1 r = t) (hj : j < fCt S t) (hd : D r = dp) : ∃ D', rxQ S r σ σ' D D' := sorry
theorem dJs_K {rec : Rx} (hk : RxK S rec) (la : laOK S) (ok : scOK S N) (hT : ∀ k, k < 8 * n → 0 ≤ T k ∧ T k < 256) : ∀ (q j : Nat) (σ σ' : Sx) (D : Nat → Nat), dJs S N g T n rec r t dp at' data ps p q j σ = .inr σ' → j + q = fCt S t → hIn S σ.1 D → r < σ.1.1 → σ.1.2.1 r = t → D r = dp → ∃ D', rxQ S r σ σ' D D' := sorry
theorem dPs_K {rec : Rx} (hk : RxK S rec) (la : laOK S) (ok : scOK S N) (hT : ∀ k, k < 8 * n → 0 ≤ T k ∧ T k < 256) : ∀ (q p : Nat) (σ σ' : Sx) (D : Nat → Nat), dPs S N g T n rec r t dp at' data ps q p σ = .inr σ' → hIn S σ.1 D → r < σ.1.1 → σ.1.2.1 r = t → D r = dp → ∃ D', rxQ S r σ σ' D D' := sorry
theorem dRec_K (la : laOK S) (bn : bnOK S) (ok : scOK S N) (hT : ∀ k, k < 8 * n → 0 ≤ T k ∧ T k < 256) : ∀ c, RxK S (dRec S N g T n c) := sorry
end Sy
end
section
section Sz
variable {S : SF} {N : NF} {h h' h'' : He} {D D' D'' : Nat → Nat} {r j e p n t at' data ps dp κ1 κ φ ρ : Nat} {T : Nat → Int} {k v : Int} {l : List Int} {g : Bool} {σ σ' σ'' : Sx}
def ivX (g : Bool) (κ1 κ φ ρ : Nat) (σ : Sx) : Prop := ∃ R P : Nat, P + R + κ1 ≤ σ.2.2.2.1 ∧ σ.2.1 + σ.2.2.1 + κ + φ ≤ 1 + 24 * R + σ.2.2.2.2.1 + P ∧ R + κ + ρ ≤ σ.2.2.2.2.1 + P + 1 ∧ (g = true → σ.2.1 + κ ≤ 3130 + σ.2.2.2.2.1 + P + R) ∧ σ.2.2.2.1 ≤ 1000 ∧ σ.2.2.2.2.1 ≤ 400 ∧ σ.2.2.2.2.2 ≤ 8 * σ.2.2.2.1
theorem ivX.le {κ1' φ' : Nat} (x : ivX g κ1 κ φ ρ σ) (h1 : κ1' ≤ κ1) (h2 : φ' ≤ φ) : ivX g κ1' κ φ' ρ σ := sorry
theorem ivX.u (x : ivX true κ1 κ φ ρ σ) : σ.2.1 + κ ≤ 4530 ∧ σ.2.2.2.1 ≤ 1000 ∧ σ.2.2.2.2.1 ≤ 400 ∧ σ.2.2.2.2.2 ≤ 8000 ∧ σ.2.1 + σ.2.2.1 ≤ 30000 := sorry
theorem ivX.put (x : ivX g κ1 κ (φ + 1) ρ σ) : ivX g κ1 κ φ ρ (dPut S N g r j v l σ) := sorry
theorem ivX.puti (x : ivX g κ1 (κ + 1) φ ρ σ) : ivX g κ1 κ φ ρ (dPut S N g r j v l σ) := sorry
theorem ivX.put0 (x : ivX g κ1 κ φ ρ σ) (e : dfB S N (σ.1.2.1 r) j v l = true) : ivX g κ1 κ φ ρ (dPut S N g r j v l σ) := sorry
theorem ivX.rn (x : ivX g κ1 κ (φ + 1) ρ σ) : ivX g κ1 κ φ ρ (dRn S g r j σ) := sorry
theorem ivX.ent {H : He} (x : ivX g κ1 (κ + 1) φ ρ σ) : ivX g κ1 κ φ (ρ + 1) (sxH σ H) := sorry
theorem ivX.w {w' q : Nat} (x : ivX g κ1 κ φ ρ σ) (h1 : σ.2.2.2.1 + q ≤ w') (h2 : w' ≤ 1000) : ivX g (κ1 + q) κ φ ρ (sxW σ w') := sorry
theorem ivX.b {w' q : Nat} (x : ivX g κ1 κ φ ρ σ) (h0 : σ.2.2.2.1 ≤ w') (h1 : q + 8 * σ.2.2.2.1 ≤ 8 * w') (h2 : w' ≤ 1000) : ivX g κ1 κ φ ρ (sxB σ w' q) := sorry
theorem ivX.pt {H : He} (x : ivX g (κ1 + 1) κ φ ρ σ) : ivX g κ1 κ φ (ρ + 1) (sxH σ H) := sorry
theorem ivX.pb (x : ivX g (κ1 + 1) κ φ ρ σ) : ivX g κ1 κ φ ρ (dPut S N g r j v l σ) := sorry
theorem ivX.ls {w' q : Nat} (x : ivX g κ1 κ φ ρ σ) (h1 : σ.2.2.2.1 + p ≤ w') (h2 : w' ≤ 1000) (h3 : σ.2.2.2.2.1 + q ≤ 400) : ivX g (κ1 + p) (κ + q) φ ρ (sxL σ w' (σ.2.2.2.2.1 + q)) := sorry
theorem ivX.beg (x : ivX g (κ1 + (if data = 0 then 0 else 1)) κ φ (ρ + 1) σ) : ivX g κ1 κ (φ + (if data = 0 then 0 else 24)) ρ σ := sorry
def cnt (P : Nat → Bool) : Nat → Nat → Nat
  | 0, _ => 0
  | m + 1, k => (if P k = true then 1 else 0) + cnt P m (k + 1)
theorem cnt_len {P : Nat → Bool} : ∀ (m k : Nat), cnt P m k = ((List.range' k m).filter P).length := sorry
theorem cnt_mono {P Q : Nat → Bool} : ∀ (m k : Nat), (∀ j, k ≤ j → j < k + m → P j = true → Q j = true) → cnt P m k ≤ cnt Q m k := sorry
theorem cnt_lt {P Q : Nat → Bool} {i : Nat} (hP : P i = false) (hQ : Q i = true) : ∀ (m k : Nat), k ≤ i → i < k + m → (∀ j, k ≤ j → j < k + m → P j = true → Q j = true) → cnt P m k + 1 ≤ cnt Q m k := sorry
theorem cnt_two {f : Nat → Nat} {P Q : Nat → Bool} (h1 : ∀ i, i < n → f i < n) (h2 : ∀ i i', i < n → i' < n → f i = f i' → i = i') (h3 : ∀ i, P i = true → Q i = true → False) : cnt (fun i => P (f i)) n 0 + cnt Q n 0 ≤ n := sorry
end Sz
end
section
section Ta
variable {S : SF} {N : NF} {h h' h'' : He} {D D' D'' : Nat → Nat} {r j e p n t at' data ps dp κ1 κ φ ρ c0 : Nat} {T : Nat → Int} {k v : Int} {l : List Int} {g : Bool} {σ σ' σ'' : Sx}
def stOK (S : SF) : Prop := ∀ t j : Nat, (t : Int) < S 0 0 0 → S 2 t 0 = 1 → j < fCt S t → S 11 t j = 0 → S 15 t j < 0 → (S 12 t j ≤ 8 ∨ S 12 t j = 11) → kCut (S 12 t j) (S 19 t j) = S 19 t j
theorem tgN_cnt {t j : Nat} : ∀ (m k : Nat), tgN S t j m k = cnt (fun k => decide (S 15 t k = S 15 t j ∧ S 10 t k < S 10 t j)) m k := sorry
theorem tgO_lt {t j c : Nat} (hc : c < fCt S t) (e : S 15 t c = S 15 t j) (lt : S 10 t c < S 10 t j) : tgO S t c < tgO S t j := sorry
theorem tgO_inj {t j c : Nat} (nu : nuOK S) (t1 : (t : Int) < S 0 0 0) (t2 : S 2 t 0 = 1) (hj : j < fCt S t) (hc : c < fCt S t) (ne : j ≠ c) (e : S 15 t c = S 15 t j) : tgO S t j ≠ tgO S t c := sorry
theorem dIs_uq {c : Nat} (la : laOK S) (nu : nuOK S) (t1 : (t : Int) < S 0 0 0) (t2 : S 2 t 0 = 1) (hj : j < fCt S t) (hc : c < fCt S t) (a : dIs S T t at' data p j) (b : dIs S T t at' data p c) : j = c := sorry
theorem dJs_none {rec : Rx} : ∀ (q j : Nat), (∀ c, j ≤ c → c < j + q → ¬ dIs S T t at' data p c) → dJs S N g T n rec r t dp at' data ps p q j σ = .inr σ := sorry
theorem dJs_one {rec : Rx} {j0 : Nat} : ∀ (q j : Nat), j ≤ j0 → j0 < j + q → (∀ c, j ≤ c → c < j + q → c ≠ j0 → ¬ dIs S T t at' data p c) → dJs S N g T n rec r t dp at' data ps p q j σ = dPj S N g T n rec r t dp at' data ps p j0 σ := sorry
theorem dJs_at {rec : Rx} (la : laOK S) (nu : nuOK S) (t1 : (t : Int) < S 0 0 0) (t2 : S 2 t 0 = 1) : ((∀ c, c < fCt S t → ¬ dIs S T t at' data p c) ∧ dJs S N g T n rec r t dp at' data ps p (fCt S t) 0 σ = .inr σ) ∨ ∃ j, j < fCt S t ∧ dIs S T t at' data p j ∧ (∀ c, c < fCt S t → c ≠ j → ¬ dIs S T t at' data p c) ∧ dJs S N g T n rec r t dp at' data ps p (fCt S t) 0 σ = dPj S N g T n rec r t dp at' data ps p j σ := sorry
theorem lvO_nz {V : Nat → Nat → List It} {c : Nat} (hh : lvO S t r j V r c ≠ []) : V r c ≠ [] := sorry
theorem hSet_ne {c : Nat} (hh : (hSet S N h r j (0, []) v l).2.2.1 r c ≠ []) : c = j ∨ h.2.2.1 r c ≠ [] := sorry
theorem hRec_ne {c : Nat} (hr : r < h.1) (hh : (hRec S h r j (0, [])).2.2.1 r c ≠ []) : c = j ∨ h.2.2.1 r c ≠ [] := sorry
theorem dPut_ne {c : Nat} (hh : (dPut S N g r j v l σ).1.2.2.1 r c ≠ []) : c = j ∨ σ.1.2.2.1 r c ≠ [] := sorry
theorem dRn_ne {c : Nat} (hr : r < σ.1.1) (hh : (dRn S g r j σ).1.2.2.1 r c ≠ []) : c = j ∨ σ.1.2.2.1 r c ≠ [] := sorry
theorem bt_0 {q w : Nat} : bt T at' 0 q w = 0 := sorry
theorem chs_0 : ¬ chs S T t at' 0 j := sorry
theorem xor64_z {x : Int} (hx : lng x) : xor64 0 x = x := sorry
theorem dVl_0 {v : Int} (st : stOK S) (la : laOK S) (ok : fdOK S N t j) (t1 : (t : Int) < S 0 0 0) (t2 : S 2 t 0 = 1) (hj : j < fCt S t) (e : dVl S T t at' 0 j = some v) : dfB S N t j v [] = true := sorry
def nmF (S : SF) (t j : Nat) : Bool := decide (S 11 t j < 2 ∧ (S 12 t j ≤ 8 ∨ S 12 t j = 11))
theorem dNs_N (la : laOK S) (bn : bnOK S) (st : stOK S) (ok : scOK S N) (t1 : (t : Int) < S 0 0 0) (t2 : S 2 t 0 = 1) : ∀ (q i : Nat) (σ : Sx), i + q = fCt S t → hIn S σ.1 D → r < σ.1.1 → σ.1.2.1 r = t → ivX g κ1 κ (φ + (if data = 0 then 0 else cnt (fun i => nmF S t (S 20 t i).toNat) q i)) ρ σ → ivX g κ1 κ φ ρ (dNs S N g T r t at' data q i σ) ∧ ∀ c, (dNs S N g T r t at' data q i σ).1.2.2.1 r c ≠ [] → σ.1.2.2.1 r c ≠ [] ∨ nmF S t c = true ∧ (0 ≤ S 15 t c → chs S T t at' data c) := sorry
end Ta
end
section
section Tb
variable {S : SF} {N : NF} {h h' h'' : He} {D D' D'' : Nat → Nat} {r j e p n t at' data ps dp κ1 κ φ ρ c0 : Nat} {T : Nat → Int} {k v : Int} {l : List Int} {g : Bool} {σ σ' σ'' : Sx}
abbrev d1 (d : Nat) : Nat := if d = 0 then 0 else 1
def RxN (S : SF) (g : Bool) (c : Nat) (rec : Rx) : Prop := ∀ (r t dp at' data ps : Nat) (σ : Sx) (D : Nat → Nat) (κ1 κ φ : Nat), hIn S σ.1 D → r < σ.1.1 → σ.1.2.1 r = t → D r = dp → dp + c = 13 → (∀ j, σ.1.2.2.1 r j = []) → ivX g (κ1 + (d1 data + ps)) κ φ 1 σ → (∀ f, rec r t dp at' data ps σ = .inl f → fOk f) ∧ ∀ σ', rec r t dp at' data ps σ = .inr σ' → ivX g κ1 κ φ 0 σ'
theorem dFL_f {sort w : Nat} {f : Flt} (e : dFL T n p sort w = .inl f) : fOk f := sorry
theorem dFR_f {w : Nat} {f : Flt} (e : dFR T n p dp w = .inl f) : fOk f := sorry
theorem dBy_f {w : Nat} {f : Flt} (e : dBy T n k p w = .inl f) : fOk f := sorry
theorem dBo_f {w : Nat} {f : Flt} {is : Prop} [Decidable is] (e : dBo T n k is p w = .inl f) : fOk f := sorry
theorem dKy_f {pos d w : Nat} {f : Flt} (e : dKy S T n t j pos d ps w = .inl f) : fOk f := sorry
theorem dIt_N (hT : ∀ k, k < 8 * n → 0 ≤ T k ∧ T k < 256) {b : Nat} : ∀ (q i : Nat) (σ : Sx), ivX g κ1 (κ + q) φ ρ σ → (∀ f, dIt S N g T n r j b k q i σ = .inl f → fOk f) ∧ ∀ σ', dIt S N g T n r j b k q i σ = .inr σ' → ivX g κ1 κ φ ρ σ' ∧ ∀ c, σ'.1.2.2.1 r c ≠ [] → c = j ∨ σ.1.2.2.1 r c ≠ [] := sorry
theorem dPr_N {rec : Rx} (hn : RxN S g c0 rec) (hk : RxK S rec) (ok : scOK S N) (hT : ∀ k, k < 8 * n → 0 ≤ T k ∧ T k < 256) (hc : dp + c0 = 12) {pos d : Nat} {key : Int × List Int} (i : hIn S σ.1 D) (hr : r < σ.1.1) (ht : σ.1.2.1 r = t) (hj : j < fCt S t) (m3 : S 11 t j = 3) (hd : D r = dp) (kd : kDp (S 14 t j) key.1 key.2 (σ.1.2.2.1 r j) = []) (kk : (lng key.1 ∧ byt key.2) ∧ (S 14 t j ≠ 9 → key.2 = []) ∧ (S 14 t j = 9 → key.1 = 0)) (x : ivX g κ1 (κ + 1) φ 0 σ) :
    (∀ f, dPr S N T n rec r t j dp pos d ps key σ = .inl f → fOk f) ∧ ∀ σ', dPr S N T n rec r t j dp pos d ps key σ = .inr σ' → ivX g κ1 κ φ 0 σ' ∧ (∀ c, c ≠ j → σ'.1.2.2.1 r c = σ.1.2.2.1 r c) ∧ ∃ y : It, σ'.1.2.2.1 r j = σ.1.2.2.1 r j ++ [y] ∧ y.1 = key.1 ∧ y.2.1 = key.2 := sorry
theorem dRr_N {rec : Rx} (hn : RxN S g c0 rec) (hk : RxK S rec) (ok : scOK S N) (hc : dp + c0 = 12) {pos d : Nat} (i : hIn S σ.1 D) (hr : r < σ.1.1) (ht : σ.1.2.1 r = t) (hj : j < fCt S t) (m2 : S 11 t j = 2) (h12 : S 12 t j = 12) (d12 : dp + 1 ≤ 12) (hd : D r = dp) (x : ivX g (κ1 + (d1 d + ps)) (κ + 1) φ 0 σ) :
    (∀ f, rec σ.1.1 (S 13 t j).toNat (dp + 1) pos d ps (sxH σ (hIr S σ.1 r j (0, []))) = .inl f → fOk f) ∧ ∀ σ1, rec σ.1.1 (S 13 t j).toNat (dp + 1) pos d ps (sxH σ (hIr S σ.1 r j (0, []))) = .inr σ1 → ivX g κ1 κ φ 0 σ1 ∧ (∀ c, c ≠ j → σ1.1.2.2.1 r c = σ.1.2.2.1 r c) ∧ ∃ D1, rxQ S r σ σ1 D D1 := sorry
theorem dRw_N {rec : Rx} (hn : RxN S g c0 rec) (hk : RxK S rec) (ok : scOK S N) (hT : ∀ k, k < 8 * n → 0 ≤ T k ∧ T k < 256) (hc : dp + c0 = 12) {q d : Nat} (hj : j < fCt S t) (m23 : S 11 t j = 3 ∨ S 11 t j = 2 ∧ S 12 t j = 12 ∧ dp + 1 ≤ 12) : ∀ (m pos : Nat) (last : Option (Int × List Int)) (σ : Sx) (D : Nat → Nat), hIn S σ.1 D → r < σ.1.1 → σ.1.2.1 r = t → D r = dp → (S 11 t j = 3 → lLs S σ.1 r j last) → ivX g (κ1 + m * (d1 d + ps)) (κ + m) φ 0 σ →
    (∀ f, dRw S N T n rec r t j dp q d ps m pos last σ = .inl f → fOk f) ∧ ∀ σ', dRw S N T n rec r t j dp q d ps m pos last σ = .inr σ' → ivX g κ1 κ φ 0 σ' ∧ ∀ c, c ≠ j → σ'.1.2.2.1 r c = σ.1.2.2.1 r c := sorry
end Tb
end
section
section Tc
variable {S : SF} {N : NF} {h h' h'' : He} {D D' D'' : Nat → Nat} {r j e p n t at' data ps dp κ1 κ φ ρ c0 : Nat} {T : Nat → Int} {k v : Int} {l : List Int} {g : Bool} {σ σ' σ'' : Sx}
theorem hRec_nw {j' : Nat} (hr : r < h.1) : (hRec S h r j (0, [])).2.2.1 h.1 j' = [] := sorry
theorem ivX.xw (x : ivX g κ1 κ φ ρ σ) : σ.2.2.2.1 ≤ 1000 := sorry
theorem dPt_N {rec : Rx} (hn : RxN S g c0 rec) (hk : RxK S rec) (ok : scOK S N) (hT : ∀ k, k < 8 * n → 0 ≤ T k ∧ T k < 256) (hc : dp + c0 = 12) {q : Nat} (i : hIn S σ.1 D) (hr : r < σ.1.1) (ht : σ.1.2.1 r = t) (hj : j < fCt S t) (hd : D r = dp) (ve : σ.1.2.2.1 r j = []) (x : ivX g (κ1 + 1) κ φ 0 σ) :
    (∀ f, dPt S N g T n rec r t j dp q σ = .inl f → fOk f) ∧ ∀ σ', dPt S N g T n rec r t j dp q σ = .inr σ' → ivX g κ1 κ φ 0 σ' ∧ ∀ c, σ'.1.2.2.1 r c ≠ [] → c = j ∨ σ.1.2.2.1 r c ≠ [] := sorry
theorem dIs_0 (la : fLa S t j) (is : dIs S T t at' 0 p j) : S 15 t j < 0 ∧ S 18 t j < 0 := sorry
theorem dPj_N {rec : Rx} (hn : RxN S g c0 rec) (hk : RxK S rec) (la : laOK S) (ok : scOK S N) (hT : ∀ k, k < 8 * n → 0 ≤ T k ∧ T k < 256) (hc : dp + c0 = 12) (i : hIn S σ.1 D) (hr : r < σ.1.1) (ht : σ.1.2.1 r = t) (hj : j < fCt S t) (hd : D r = dp) (ve : σ.1.2.2.1 r j = []) (is : dIs S T t at' data p j) (x : ivX g (κ1 + (if p < ps then 1 else 0)) κ (φ + (if data = 0 then 0 else 1)) 0 σ) :
    (∀ f, dPj S N g T n rec r t dp at' data ps p j σ = .inl f → fOk f) ∧ ∀ σ', dPj S N g T n rec r t dp at' data ps p j σ = .inr σ' → ivX g κ1 κ φ 0 σ' ∧ ∀ c, σ'.1.2.2.1 r c ≠ [] → c = j ∨ σ.1.2.2.1 r c ≠ [] := sorry
def cPt (S : SF) (t p : Nat) : Nat := cnt (fun j => decide ((p : Int) ≤ S 17 t j)) (fCt S t) 0
def dEm (S : SF) (T : Nat → Int) (t at' data r p : Nat) (h : He) : Prop := ∀ c, h.2.2.1 r c ≠ [] → (0 ≤ S 15 t c → chs S T t at' data c) ∧ (nmF S t c = true ∨ S 17 t c < (p : Int))
theorem dPs_N {rec : Rx} (hn : RxN S g c0 rec) (hk : RxK S rec) (la : laOK S) (nu : nuOK S) (ok : scOK S N) (hT : ∀ k, k < 8 * n → 0 ≤ T k ∧ T k < 256) (hc : dp + c0 = 12) (t1 : (t : Int) < S 0 0 0) (t2 : S 2 t 0 = 1) : ∀ (q p : Nat) (σ : Sx) (D : Nat → Nat), hIn S σ.1 D → r < σ.1.1 → σ.1.2.1 r = t → D r = dp → dEm S T t at' data r p σ.1 → ivX g (κ1 + (ps - p)) κ (φ + (if data = 0 then 0 else cPt S t p)) 0 σ →
    (∀ f, dPs S N g T n rec r t dp at' data ps q p σ = .inl f → fOk f) ∧ ∀ σ', dPs S N g T n rec r t dp at' data ps q p σ = .inr σ' → ivX g κ1 κ φ 0 σ' := sorry
theorem dRec_N (la : laOK S) (bn : bnOK S) (nu : nuOK S) (st : stOK S) (ok : scOK S N) (hT : ∀ k, k < 8 * n → 0 ≤ T k ∧ T k < 256) : ∀ c, RxN S g c (dRec S N g T n c) := sorry
end Tc
end
section
section Td
variable {S : SF} {N : NF} {T : Nat → Int} {n r r' t j dp at' data ps p : Nat} {P : Prop} {σ σ' : Sx} {a b : Flt ⊕ Sx}
def dvX (σ σ' : Sx) : Prop := 401 < σ.2.1 ∧ 401 < σ'.2.1 ∧ σ.2.2.2 = σ'.2.2.2
def rlX (P : Prop) (σ σ' : Sx) : Prop := (P ∧ σ = σ' ∧ σ.1.1 ≤ σ.2.1 ∧ σ.2.2.1 = 0) ∨ dvX σ σ'
def rlO (P : Prop) (a b : Flt ⊕ Sx) : Prop := a = .inl ovr ∨ b = .inl ovr ∨ (∃ f, a = .inl f ∧ b = .inl f) ∨ ∃ σ σ', a = .inr σ ∧ b = .inr σ' ∧ rlX P σ σ'
theorem rlX.w (x : rlX P σ σ') : σ.2.2.2 = σ'.2.2.2 := sorry
theorem rlO.inl {f : Flt} : rlO P (.inl f) (.inl f) := sorry
theorem rlO.inr (x : rlX P σ σ') : rlO P (.inr σ) (.inr σ') := sorry
theorem rlO.of {Q : Prop} (x : rlO Q a b) (k : Q → P) : rlO P a b := sorry
def RxR (rec rec' : Rx) : Prop := ∀ (P : Prop) (r r' t dp at' data ps : Nat) (σ σ' : Sx), (P → r = r') → rlX P σ σ' → rlO P (rec r t dp at' data ps σ) (rec' r' t dp at' data ps σ')
theorem dPut_U {g : Bool} {v : Int} {l : List Int} : σ.2.1 ≤ (dPut S N g r j v l σ).2.1 ∧ (dPut S N g r j v l σ).2.2.2 = σ.2.2.2 := sorry
theorem dPut_R {v : Int} {l : List Int} (hr : P → r = r') (x : rlX P σ σ') : rlX P (dPut S N false r j v l σ) (dPut S N true r' j v l σ') := sorry
theorem dRn_U {g : Bool} : σ.2.1 ≤ (dRn S g r j σ).2.1 ∧ (dRn S g r j σ).2.2.2 = σ.2.2.2 := sorry
theorem dRn_R (hr : P → r = r') (x : rlX P σ σ') : rlX P (dRn S false r j σ) (dRn S true r' j σ') := sorry
theorem sxB_R {w k : Nat} (x : rlX P σ σ') : rlX P (sxB σ w k) (sxB σ' w k) := sorry
theorem sxL_R {w L : Nat} (x : rlX P σ σ') : rlX P (sxL σ w L) (sxL σ' w L) := sorry
theorem sxW_R {w : Nat} (x : rlX P σ σ') : rlX P (sxW σ w) (sxW σ' w) := sorry
theorem sxH_R {H H' : He} (x : rlX P σ σ') (e : σ = σ' → P → H = H') (le : H.1 ≤ σ.1.1 + 1) : rlX P (sxH σ H) (sxH σ' H') := sorry
theorem hIr_le {h : He} {key : Int × List Int} : (hIr S h r j key).1 = h.1 + 1 := sorry
theorem hIs_le {h : He} {key : Int × List Int} {v : Int} {l : List Int} : (hIs S N h r j key v l).1 = h.1 := sorry
theorem RxR.go {rec rec' : Rx} (hR : RxR rec rec') {τ τ' : Sx} (x0 : rlX P σ σ') (x : ∀ Q : Prop, rlX Q σ σ' → rlX Q τ τ') : rlO P (rec σ.1.1 t dp at' data ps τ) (rec' σ'.1.1 t dp at' data ps τ') := sorry
theorem dNs_R (hr : P → r = r') : ∀ (q i : Nat) (σ σ' : Sx), rlX P σ σ' → rlX P (dNs S N false T r t at' data q i σ) (dNs S N true T r' t at' data q i σ') := sorry
theorem dIt_R {b : Nat} {k : Int} (hr : P → r = r') : ∀ (q i : Nat) (σ σ' : Sx), rlX P σ σ' → rlO P (dIt S N false T n r j b k q i σ) (dIt S N true T n r' j b k q i σ') := sorry
theorem dPr_R {rec rec' : Rx} (hR : RxR rec rec') {pos d : Nat} {key : Int × List Int} (hr : P → r = r') (x : rlX P σ σ') : rlO P (dPr S N T n rec r t j dp pos d ps key σ) (dPr S N T n rec' r' t j dp pos d ps key σ') := sorry
theorem dRw_R {rec rec' : Rx} (hR : RxR rec rec') {q d : Nat} (hr : P → r = r') : ∀ (m pos : Nat) (last : Option (Int × List Int)) (σ σ' : Sx), rlX P σ σ' → rlO P (dRw S N T n rec r t j dp q d ps m pos last σ) (dRw S N T n rec' r' t j dp q d ps m pos last σ') := sorry
theorem dPt_R {rec rec' : Rx} (hR : RxR rec rec') {q : Nat} (hr : P → r = r') (x : rlX P σ σ') : rlO P (dPt S N false T n rec r t j dp q σ) (dPt S N true T n rec' r' t j dp q σ') := sorry
theorem dPj_R {rec rec' : Rx} (hR : RxR rec rec') (hr : P → r = r') (x : rlX P σ σ') : rlO P (dPj S N false T n rec r t dp at' data ps p j σ) (dPj S N true T n rec' r' t dp at' data ps p j σ') := sorry
theorem dJs_R {rec rec' : Rx} (hR : RxR rec rec') (hr : P → r = r') : ∀ (q j : Nat) (σ σ' : Sx), rlX P σ σ' → rlO P (dJs S N false T n rec r t dp at' data ps p q j σ) (dJs S N true T n rec' r' t dp at' data ps p q j σ') := sorry
theorem dPs_R {rec rec' : Rx} (hR : RxR rec rec') (hr : P → r = r') : ∀ (q p : Nat) (σ σ' : Sx), rlX P σ σ' → rlO P (dPs S N false T n rec r t dp at' data ps q p σ) (dPs S N true T n rec' r' t dp at' data ps q p σ') := sorry
theorem dRec_R : ∀ c, RxR (dRec S N false T n c) (dRec S N true T n c) := sorry
theorem dDx_R : rlO True (dDx S N false T n t) (dDx S N true T n t) := sorry
end Td
end
section
section Te
variable {S : SF} {N : NF} {h h' : He} {D D' : Nat → Nat} {r j p n t at' data ps dp c0 : Nat} {T : Nat → Int} {k v : Int} {l : List Int} {g : Bool} {σ σ' : Sx} {F lo : Nat → Int}
theorem sumK_nn : ∀ (L : List Nat), (∀ x ∈ L, 0 ≤ F x) → 0 ≤ sumK F L := sorry
theorem sumK_er {x : Nat} : ∀ (L : List Nat), x ∈ L → sumK F L = F x + sumK F (L.erase x) := sorry
theorem sumK_ge : ∀ (n : Nat) (L : List Nat), (∀ x ∈ L, 0 ≤ F x) → (∀ x, x < n → x ≠ 0 → x ∈ L) → sumN (fun x => if x = 0 then 0 else F x) n ≤ sumK F L := sorry
theorem sumI_K : ∀ (L : List It), sumI F L = sumK F (L.map fun q => q.2.2.2.2) := sorry
theorem tree_ge (dn : hDn S h (fun _ => true)) (no : noOr S h.1 (fun _ => true) h.2.1 h.2.2.1 (fun _ => False)) (l0 : ∀ r, r < h.1 → 0 ≤ lo r) (h0 : 0 < h.1) : sumN lo h.1 ≤ mz S h lo h.1 0 := sorry
def chU (S : SF) (h : He) : Prop := ∃ own : Nat → Nat × Nat, ∀ r j, r < h.1 → j < fCt S (h.2.1 r) → S 12 (h.2.1 r) j = 12 → (h.2.2.1 r j).Pairwise (fun q q' => q.2.2.2.2 ≠ q'.2.2.2.2) ∧ ∀ q ∈ h.2.2.1 r j, own q.2.2.2.2 = (r, j) ∧ q.2.2.2.2 < h.1
theorem tree_le (dn : hDn S h (fun _ => true)) (cu : chU S h) (l0 : ∀ r, r < h.1 → 0 ≤ lo r) (h0 : 0 < h.1) : mz S h lo h.1 0 ≤ sumN lo h.1 ∧ 0 ≤ mz S h lo h.1 0 := sorry
def aIn (S : SF) (σ : Sx) : Prop := noOr S σ.1.1 (fun _ => true) σ.1.2.1 σ.1.2.2.1 (fun _ => False) ∧ (σ.2.1 : Int) ≤ 1 + toV S σ.1.1 (fun _ => true) σ.1.2.1 σ.1.2.2.1 σ.1.2.2.2 ∧ chU S σ.1 ∧ toV S σ.1.1 (fun _ => true) σ.1.2.1 σ.1.2.2.1 σ.1.2.2.2 ≤ 3 * (σ.2.1 : Int) ∧ toB S σ.1.1 (fun _ => true) σ.1.2.1 σ.1.2.2.1 σ.1.2.2.2 ≤ 16000 * (σ.2.1 : Int)
theorem aIn.c (x : aIn S σ) (e : σ'.1 = σ.1) (e2 : σ'.2.1 = σ.2.1) : aIn S σ' := sorry
theorem tWg_1 {m : Int} {f : Bool} : 1 ≤ tWg m f := sorry
theorem aIn.va {q : It} {U' x' : Nat} {rest : Nat × Nat × Nat} (x : aIn S σ) (hr : r < σ.1.1) (hj : j < fCt S (σ.1.2.1 r)) (h12 : S 12 (σ.1.2.1 r) j ≠ 12) (hu : U' = σ.2.1 + 1) (hq : q.2.1.length ≤ 8000 ∧ q.2.2.2.1.length ≤ 8000) : aIn S ((σ.1.1, σ.1.2.1, upV σ.1.2.2.1 r j (σ.1.2.2.1 r j ++ [q]), σ.1.2.2.2), U', x', rest) := sorry
theorem upL_t {n : Nat} : upL (fun _ => true) n true = fun _ => true := sorry
theorem aIn.re {q : It} {U' x' t' : Nat} {rest : Nat × Nat × Nat} (x : aIn S σ) (hr : r < σ.1.1) (hj : j < fCt S (σ.1.2.1 r)) (h12 : S 12 (σ.1.2.1 r) j = 12) (hu : U' = σ.2.1 + 1) (hq : q.2.2.2.2 = σ.1.1) (hl : q.2.1.length ≤ 8000 ∧ q.2.2.2.1.length ≤ 8000) : aIn S ((σ.1.1 + 1, upT σ.1.2.1 σ.1.1 t', upV (nwV σ.1.2.2.1 σ.1.1) r j (σ.1.2.2.1 r j ++ [q]), nwU σ.1.2.2.2 σ.1.1), U', x', rest) := sorry
theorem dBy_len {w w' : Nat} (e : dBy T n k p w = .inr (l, w')) : l.length ≤ 8000 := sorry
theorem dBo_len {w w' : Nat} {is : Prop} [Decidable is] (e : dBo T n k is p w = .inr (l, w')) : l.length ≤ 8000 := sorry
theorem dKy_len {pos d w w' : Nat} (e : dKy S T n t j pos d ps w = .inr (v, l, w')) : l.length ≤ 8000 := sorry
end Te
end
section
section Tf
variable {S : SF} {N : NF} {h h' : He} {D D' : Nat → Nat} {r j p n t at' data ps dp c0 κ1 κ φ : Nat} {T : Nat → Int} {k v : Int} {l : List Int} {g : Bool} {σ σ' : Sx}
abbrev onE (S : SF) (t r j : Nat) (h : He) : Prop := ∀ c, c < fCt S t → c ≠ j → 0 ≤ S 15 t j → S 15 t c = S 15 t j → h.2.2.1 r c = []
theorem lvO_sm {V : Nat → Nat → List It} (hv : ∀ c, c < fCt S t → c ≠ j → 0 ≤ S 15 t j → S 15 t c = S 15 t j → V r c = []) : lvO S t r j V = V := sorry
theorem hSet_f (lt2 : S 11 (h.2.1 r) j < 2) (ve : h.2.2.1 r j = []) (hv : onE S (h.2.1 r) r j h) : hSet S N h r j (0, []) v l = if dfB S N (h.2.1 r) j v l = true then h else (h.1, h.2.1, upV h.2.2.1 r j (h.2.2.1 r j ++ [(0, [], v, l, 0)]), h.2.2.2) := sorry
theorem hRec_f (lt2 : S 11 (h.2.1 r) j < 2) (ve : h.2.2.1 r j = []) (hv : onE S (h.2.1 r) r j h) : hRec S h r j (0, []) = (h.1 + 1, upT h.2.1 h.1 (S 13 (h.2.1 r) j).toNat, upV (nwV h.2.2.1 h.1) r j (h.2.2.1 r j ++ [itR h.1]), nwU h.2.2.2 h.1) := sorry
theorem one_fr (la : laOK S) (nu : nuOK S) (t1 : (t : Int) < S 0 0 0) (t2 : S 2 t 0 = 1) (hj : j < fCt S t) (cj : 0 ≤ S 15 t j → chs S T t at' data j) (em : ∀ c, h.2.2.1 r c ≠ [] → 0 ≤ S 15 t c → chs S T t at' data c) : onE S t r j h := sorry
def dE1 (S : SF) (T : Nat → Int) (t at' data r i : Nat) (h : He) : Prop := ∀ c, h.2.2.1 r c ≠ [] → (0 ≤ S 15 t c → chs S T t at' data c) ∧ ∃ i', i' < i ∧ c = (S 20 t i').toNat
theorem bn_inj {i i' : Nat} (bn : bnOK S) (t1 : (t : Int) < S 0 0 0) (t2 : S 2 t 0 = 1) (h1 : i < fCt S t) (h2 : i' < fCt S t) (e : (S 20 t i).toNat = (S 20 t i').toNat) : i = i' := sorry
theorem dVl_ch (e : dVl S T t at' data j = some v) : 0 ≤ S 15 t j → chs S T t at' data j := sorry
theorem num_fr {i : Nat} (la : laOK S) (bn : bnOK S) (nu : nuOK S) (t1 : (t : Int) < S 0 0 0) (t2 : S 2 t 0 = 1) (hi : i < fCt S t) (em : dE1 S T t at' data r i h) (e : dVl S T t at' data (S 20 t i).toNat = some v) : h.2.2.1 r (S 20 t i).toNat = [] ∧ onE S t r (S 20 t i).toNat h := sorry
theorem dE1.nx {i : Nat} (em : dE1 S T t at' data r i σ.1) : dE1 S T t at' data r (i + 1) (match dVl S T t at' data (S 20 t i).toNat with
    | none => σ
    | some v => dPut S N g r (S 20 t i).toNat v [] σ).1 := sorry
theorem ptr_fr (la : laOK S) (nu : nuOK S) (t1 : (t : Int) < S 0 0 0) (t2 : S 2 t 0 = 1) (hj : j < fCt S t) (em : dEm S T t at' data r p h) (is : dIs S T t at' data p j) : h.2.2.1 r j = [] ∧ onE S t r j h := sorry
theorem dPut_A (x : aIn S σ) (hr : r < σ.1.1) (ht : σ.1.2.1 r = t) (hj : j < fCt S t) (m3 : S 11 t j ≠ 3) (m03 : S 11 t j ≤ 3) (h12 : S 12 t j ≠ 12) (ve : S 11 t j < 2 → σ.1.2.2.1 r j = [] ∧ onE S t r j σ.1) (hl : l.length ≤ 8000) : aIn S (dPut S N g r j v l σ) := sorry
theorem hRec_A {U' x' : Nat} {rest : Nat × Nat × Nat} (x : aIn S σ) (hr : r < σ.1.1) (ht : σ.1.2.1 r = t) (hj : j < fCt S t) (lt2 : S 11 t j < 2) (h12 : S 12 t j = 12) (ve : σ.1.2.2.1 r j = []) (hv : onE S t r j σ.1) (hu : U' = σ.2.1 + 1) : aIn S (hRec S σ.1 r j (0, []), U', x', rest) := sorry
theorem hIr_A {key : Int × List Int} {U' x' : Nat} {rest : Nat × Nat × Nat} (ok : scOK S N) (i : hIn S σ.1 D) (x : aIn S σ) (hr : r < σ.1.1) (ht : σ.1.2.1 r = t) (hj : j < fCt S t) (m2 : 2 ≤ S 11 t j ∧ S 11 t j ≤ 3) (h12 : S 12 t j = 12) (kd : S 11 t j = 3 → kDp (S 14 t j) key.1 key.2 (σ.1.2.2.1 r j) = []) (k0 : S 11 t j ≠ 3 → key = (0, [])) (hu : U' = σ.2.1 + 1) (hkl : key.2.length ≤ 8000) : aIn S (hIr S σ.1 r j key, U', x', rest) := sorry
theorem hIs_A {key : Int × List Int} {U' x' : Nat} {rest : Nat × Nat × Nat} (x : aIn S σ) (hr : r < σ.1.1) (ht : σ.1.2.1 r = t) (hj : j < fCt S t) (m2 : 2 ≤ S 11 t j ∧ S 11 t j ≤ 3) (h12 : S 12 t j ≠ 12) (kd : S 11 t j = 3 → kDp (S 14 t j) key.1 key.2 (σ.1.2.2.1 r j) = []) (k0 : S 11 t j ≠ 3 → key = (0, [])) (hu : U' = σ.2.1 + 1) (hkl : key.2.length ≤ 8000) (hl : l.length ≤ 8000) : aIn S (hIs S N σ.1 r j key v l, U', x', rest) := sorry
def RxA (S : SF) (g : Bool) (c : Nat) (rec : Rx) : Prop := ∀ (r t dp at' data ps : Nat) (σ σ' : Sx) (D : Nat → Nat) (κ1 κ φ : Nat), dp + c = 13 → rec r t dp at' data ps σ = .inr σ' → hIn S σ.1 D → r < σ.1.1 → σ.1.2.1 r = t → D r = dp → (∀ j, σ.1.2.2.1 r j = []) → ivX g (κ1 + (d1 data + ps)) κ φ 1 σ → aIn S σ → aIn S σ'
theorem dNs_A (la : laOK S) (bn : bnOK S) (nu : nuOK S) (ok : scOK S N) (t1 : (t : Int) < S 0 0 0) (t2 : S 2 t 0 = 1) : ∀ (q i : Nat) (σ : Sx), i + q = fCt S t → hIn S σ.1 D → r < σ.1.1 → σ.1.2.1 r = t → dE1 S T t at' data r i σ.1 → aIn S σ → aIn S (dNs S N g T r t at' data q i σ) := sorry
theorem dIt_A (ok : scOK S N) (hT : ∀ k, k < 8 * n → 0 ≤ T k ∧ T k < 256) {b : Nat} (m2 : S 11 t j = 2) (h12 : S 12 t j ≠ 12) (hj : j < fCt S t) : ∀ (q i : Nat) (σ σ' : Sx), dIt S N g T n r j b (S 12 t j) q i σ = .inr σ' → hIn S σ.1 D → r < σ.1.1 → σ.1.2.1 r = t → aIn S σ → aIn S σ' := sorry
theorem dPr_A {rec : Rx} (hA : RxA S g c0 rec) (hc : dp + c0 = 12) (ok : scOK S N) (hT : ∀ k, k < 8 * n → 0 ≤ T k ∧ T k < 256) {pos d : Nat} {key : Int × List Int} (e : dPr S N T n rec r t j dp pos d ps key σ = .inr σ') (i : hIn S σ.1 D) (hr : r < σ.1.1) (ht : σ.1.2.1 r = t) (hj : j < fCt S t) (m3 : S 11 t j = 3) (hd : D r = dp) (kd : kDp (S 14 t j) key.1 key.2 (σ.1.2.2.1 r j) = []) (kk : (lng key.1 ∧ byt key.2) ∧ (S 14 t j ≠ 9 → key.2 = []) ∧ (S 14 t j = 9 → key.1 = 0)) (x : ivX g κ1 (κ + 1) φ 0 σ) (a : aIn S σ) (hkl : key.2.length ≤ 8000) : aIn S σ' := sorry
theorem dRr_A {rec : Rx} (hA : RxA S g c0 rec) (hc : dp + c0 = 12) (ok : scOK S N) {pos d : Nat} {σ1 : Sx} (e : rec σ.1.1 (S 13 t j).toNat (dp + 1) pos d ps (sxH σ (hIr S σ.1 r j (0, []))) = .inr σ1) (i : hIn S σ.1 D) (hr : r < σ.1.1) (ht : σ.1.2.1 r = t) (hj : j < fCt S t) (m2 : S 11 t j = 2) (h12 : S 12 t j = 12) (d12 : dp + 1 ≤ 12) (hd : D r = dp) (x : ivX g (κ1 + (d1 d + ps)) (κ + 1) φ 0 σ) (a : aIn S σ) : aIn S σ1 := sorry
theorem dRw_A {rec : Rx} (hA : RxA S g c0 rec) (hn : RxN S g c0 rec) (hk : RxK S rec) (ok : scOK S N) (hT : ∀ k, k < 8 * n → 0 ≤ T k ∧ T k < 256) (hc : dp + c0 = 12) {q d : Nat} (hj : j < fCt S t) (m23 : S 11 t j = 3 ∨ S 11 t j = 2 ∧ S 12 t j = 12 ∧ dp + 1 ≤ 12) : ∀ (m pos : Nat) (last : Option (Int × List Int)) (σ σ' : Sx) (D : Nat → Nat), dRw S N T n rec r t j dp q d ps m pos last σ = .inr σ' → hIn S σ.1 D → r < σ.1.1 → σ.1.2.1 r = t → D r = dp → (S 11 t j = 3 → lLs S σ.1 r j last) → ivX g (κ1 + m * (d1 d + ps)) (κ + m) φ 0 σ → aIn S σ → aIn S σ' := sorry
theorem dPt_A {rec : Rx} (hA : RxA S g c0 rec) (hn : RxN S g c0 rec) (hk : RxK S rec) (ok : scOK S N) (hT : ∀ k, k < 8 * n → 0 ≤ T k ∧ T k < 256) (hc : dp + c0 = 12) {q : Nat} (e : dPt S N g T n rec r t j dp q σ = .inr σ') (i : hIn S σ.1 D) (hr : r < σ.1.1) (ht : σ.1.2.1 r = t) (hj : j < fCt S t) (hd : D r = dp) (ve : σ.1.2.2.1 r j = []) (hv : onE S t r j σ.1) (x : ivX g (κ1 + 1) κ φ 0 σ) (a : aIn S σ) : aIn S σ' := sorry
theorem dPj_A {rec : Rx} (hA : RxA S g c0 rec) (hn : RxN S g c0 rec) (hk : RxK S rec) (ok : scOK S N) (hT : ∀ k, k < 8 * n → 0 ≤ T k ∧ T k < 256) (hc : dp + c0 = 12) (e : dPj S N g T n rec r t dp at' data ps p j σ = .inr σ') (i : hIn S σ.1 D) (hr : r < σ.1.1) (ht : σ.1.2.1 r = t) (hj : j < fCt S t) (hd : D r = dp) (ve : σ.1.2.2.1 r j = []) (hv : onE S t r j σ.1) (x : ivX g (κ1 + (if p < ps then 1 else 0)) κ φ 0 σ) (a : aIn S σ) : aIn S σ' := sorry
theorem dPs_A {rec : Rx} (hA : RxA S g c0 rec) (hn : RxN S g c0 rec) (hk : RxK S rec) (la : laOK S) (nu : nuOK S) (ok : scOK S N) (hT : ∀ k, k < 8 * n → 0 ≤ T k ∧ T k < 256) (hc : dp + c0 = 12) (t1 : (t : Int) < S 0 0 0) (t2 : S 2 t 0 = 1) : ∀ (q p : Nat) (σ σ' : Sx) (D : Nat → Nat), dPs S N g T n rec r t dp at' data ps q p σ = .inr σ' → hIn S σ.1 D → r < σ.1.1 → σ.1.2.1 r = t → D r = dp → dEm S T t at' data r p σ.1 → ivX g (κ1 + (ps - p)) κ (φ + (if data = 0 then 0 else cPt S t p)) 0 σ → aIn S σ → aIn S σ' := sorry
end Tf
end
section
section Tg
variable {S : SF} {N : NF} {h h' : He} {D D' : Nat → Nat} {r j p n t at' data ps dp c0 κ1 κ φ : Nat} {T : Nat → Int} {k v : Int} {l : List Int} {g : Bool} {σ σ' : Sx}
theorem dNs_st (la : laOK S) (bn : bnOK S) (st : stOK S) (ok : scOK S N) (i : hIn S σ.1 D) (hr : r < σ.1.1) (ht : σ.1.2.1 r = t) (ve : ∀ j, σ.1.2.2.1 r j = []) (x : ivX g (κ1 + (d1 data + ps)) κ φ 1 σ) : rxQ S r σ (dNs S N g T r t at' data (fCt S t) 0 σ) D D ∧ ivX g (κ1 + (ps - 0)) κ (φ + (if data = 0 then 0 else cPt S t 0)) 0 (dNs S N g T r t at' data (fCt S t) 0 σ) ∧ dEm S T t at' data r 0 (dNs S N g T r t at' data (fCt S t) 0 σ).1 ∧ dE1 S T t at' data r 0 σ.1 ∧ ivX g (κ1 + ps) κ (φ + (if data = 0 then 0 else cPt S t 0) + (if data = 0 then 0 else cnt (fun i => nmF S t (S 20 t i).toNat) (fCt S t) 0)) 0 σ := sorry
theorem dRec_A (la : laOK S) (bn : bnOK S) (nu : nuOK S) (st : stOK S) (ok : scOK S N) (hT : ∀ k, k < 8 * n → 0 ≤ T k ∧ T k < 256) : ∀ c, RxA S g c (dRec S N g T n c) := sorry
theorem iv_0 {b d p w : Nat} (e : dFR T n 0 1 0 = .inr (b, d, p, w)) : ivX g (0 + (d1 d + p)) 0 0 1 (hNew t, 1, 0, w, 0, 0) := sorry
theorem aIn_0 {w : Nat} : aIn S (hNew t, 1, 0, w, 0, 0) := sorry
theorem dDx_end (la : laOK S) (bn : bnOK S) (nu : nuOK S) (st : stOK S) (ok : scOK S N) (hT : ∀ k, k < n → 0 ≤ T k ∧ T k < 256) (tO : (t : Int) < S 0 0 0 ∧ S 2 t 0 = 1) : dDx S N g T n t ≠ .inl ovr ∧ ∀ σ, dDx S N g T n t = .inr σ → aIn S σ ∧ ivX g 0 0 0 0 σ ∧ ∃ D1, hIn S σ.1 D1 ∧ D1 0 = 1 := sorry
noncomputable def dDc (S : SF) (N : NF) (T : Nat → Int) (n t : Nat) : Flt ⊕ He := match dDx S N false T n t with
  | .inl f => .inl f
  | .inr σ => .inr σ.1
theorem dDc_tw (la : laOK S) (bn : bnOK S) (nu : nuOK S) (st : stOK S) (ok : scOK S N) (hT : ∀ k, k < n → 0 ≤ T k ∧ T k < 256) (tO : (t : Int) < S 0 0 0 ∧ S 2 t 0 = 1) : (∃ f, dDx S N true T n t = .inl f ∧ dDc S N T n t = .inl f) ∨ ∃ σ', dDx S N true T n t = .inr σ' ∧ ∃ h, dDc S N T n t = .inr h ∧ (h = σ'.1 ∧ σ'.2.2.1 = 0 ∨ 400 < vlS S h ∧ 400 < toV S σ'.1.1 (fun _ => true) σ'.1.2.1 σ'.1.2.2.1 σ'.1.2.2.2) := sorry
theorem dDx_tr (la : laOK S) (bn : bnOK S) (nu : nuOK S) (st : stOK S) (ok : scOK S N) (hT : ∀ k, k < n → 0 ≤ T k ∧ T k < 256) (tO : (t : Int) < S 0 0 0 ∧ S 2 t 0 = 1) (e : dDx S N g T n t = .inr σ) : (0 ≤ vlS S σ.1 ∧ vlS S σ.1 < 1000000) ∧ (0 ≤ btS S σ.1 ∧ btS S σ.1 < 1000000000) := sorry
theorem dDc_tr (la : laOK S) (bn : bnOK S) (nu : nuOK S) (st : stOK S) (ok : scOK S N) (hT : ∀ k, k < n → 0 ≤ T k ∧ T k < 256) (tO : (t : Int) < S 0 0 0 ∧ S 2 t 0 = 1) : ∀ h, dDc S N T n t = .inr h → (0 ≤ vlS S h ∧ vlS S h < 1000000) ∧ (0 ≤ btS S h ∧ btS S h < 1000000000) := sorry
theorem dDc_in (la : laOK S) (bn : bnOK S) (nu : nuOK S) (st : stOK S) (ok : scOK S N) (hT : ∀ k, k < n → 0 ≤ T k ∧ T k < 256) (tO : (t : Int) < S 0 0 0 ∧ S 2 t 0 = 1) : ∀ h, dDc S N T n t = .inr h → ∃ D1, hIn S h D1 ∧ D1 0 = 1 := sorry
end Tg
end
section
section Th
variable {S : SF} {N : NF} {r j p n t at' data ps dp κ : Nat} {T : Nat → Int} {v : Int} {l : List Int} {σ σ' : Sx}
def hbX (κ : Nat) (σ : Sx) : Prop := σ.1.1 + κ ≤ 402 + σ.2.2.2.2.1 + σ.2.2.2.1 ∧ κ ≤ σ.2.2.2.2.1
def RxH (rec : Rx) : Prop := ∀ (r t dp at' data ps : Nat) (σ σ' : Sx) (κ : Nat), rec r t dp at' data ps σ = .inr σ' → hbX κ σ → hbX κ σ'
theorem hbX.put (x : hbX κ σ) : hbX κ (dPut S N false r j v l σ) := sorry
theorem hbX.rn (x : hbX κ σ) : hbX κ (dRn S false r j σ) := sorry
theorem hbX.b {w k : Nat} (x : hbX κ σ) (h : σ.2.2.2.1 ≤ w) : hbX κ (sxB σ w k) := sorry
theorem hbX.ls {w q : Nat} (x : hbX κ σ) (h : σ.2.2.2.1 ≤ w) : hbX (κ + q) (sxL σ w (σ.2.2.2.2.1 + q)) := sorry
theorem hbX.ent {H : He} (x : hbX (κ + 1) σ) (h : H.1 ≤ σ.1.1 + 1) : hbX κ (sxH σ H) := sorry
theorem hbX.wl {w : Nat} {H : He} (x : hbX κ σ) (h : σ.2.2.2.1 + 1 ≤ w) (h2 : H.1 ≤ σ.1.1 + 1) : hbX κ (sxH (sxW σ w) H) := sorry
theorem hbX.wm {w : Nat} (x : hbX κ σ) (h : σ.2.2.2.1 ≤ w) : hbX κ (sxW σ w) := sorry
theorem dNs_H : ∀ (q i : Nat) (σ : Sx), hbX κ σ → hbX κ (dNs S N false T r t at' data q i σ) := sorry
theorem dIt_H (hT : ∀ k, k < 8 * n → 0 ≤ T k ∧ T k < 256) {b : Nat} {k : Int} : ∀ (q i : Nat) (σ σ' : Sx), dIt S N false T n r j b k q i σ = .inr σ' → hbX κ σ → hbX κ σ' := sorry
theorem dPr_H {rec : Rx} (hH : RxH rec) (hT : ∀ k, k < 8 * n → 0 ≤ T k ∧ T k < 256) {pos d : Nat} {key : Int × List Int} (e : dPr S N T n rec r t j dp pos d ps key σ = .inr σ') (x : hbX (κ + 1) σ) : hbX κ σ' := sorry
theorem dRw_H {rec : Rx} (hH : RxH rec) (hT : ∀ k, k < 8 * n → 0 ≤ T k ∧ T k < 256) {q d : Nat} : ∀ (m pos : Nat) (last : Option (Int × List Int)) (σ σ' : Sx), dRw S N T n rec r t j dp q d ps m pos last σ = .inr σ' → hbX (κ + m) σ → hbX κ σ' := sorry
theorem dPt_H {rec : Rx} (hH : RxH rec) (hT : ∀ k, k < 8 * n → 0 ≤ T k ∧ T k < 256) {q : Nat} (e : dPt S N false T n rec r t j dp q σ = .inr σ') (x : hbX κ σ) : hbX κ σ' := sorry
theorem dPj_H {rec : Rx} (hH : RxH rec) (hT : ∀ k, k < 8 * n → 0 ≤ T k ∧ T k < 256) (e : dPj S N false T n rec r t dp at' data ps p j σ = .inr σ') (x : hbX κ σ) : hbX κ σ' := sorry
theorem dJs_H {rec : Rx} (hH : RxH rec) (hT : ∀ k, k < 8 * n → 0 ≤ T k ∧ T k < 256) : ∀ (q j : Nat) (σ σ' : Sx), dJs S N false T n rec r t dp at' data ps p q j σ = .inr σ' → hbX κ σ → hbX κ σ' := sorry
theorem dPs_H {rec : Rx} (hH : RxH rec) (hT : ∀ k, k < 8 * n → 0 ≤ T k ∧ T k < 256) : ∀ (q p : Nat) (σ σ' : Sx), dPs S N false T n rec r t dp at' data ps q p σ = .inr σ' → hbX κ σ → hbX κ σ' := sorry
theorem dRec_H (hT : ∀ k, k < 8 * n → 0 ≤ T k ∧ T k < 256) : ∀ c, RxH (dRec S N false T n c) := sorry
end Th
end
section
section Ci
variable {μ μ' μ'' : ab_M} {d : Nat} {T : Nat → Int} {n k i ar L : Nat}
def wUp (T : Nat → Int) (k : Nat) : Nat → Nat → Nat
  | 0, _ => 0
  | m + 1, i => (T (8 * k + i)).toNat + 256 * wUp T k m (i + 1)
theorem wUp_lt (hT : ∀ i, i < 8 → 0 ≤ T (8 * k + i) ∧ T (8 * k + i) < 256) : ∀ (m i : Nat), i + m ≤ 8 → wUp T k m i < 256 ^ m := sorry
theorem wUp_8 (hT : ∀ i, i < 8 → 0 ≤ T (8 * k + i) ∧ T (8 * k + i) < 256) : BitVec.ofNat 64 (wUp T k 8 0) = wdT T k := sorry
theorem by_step {a b : Nat} (ha : a < 2 ^ 56) (hb : b < 256) : or64 (shl64 (BitVec.ofNat 64 a).toInt 8) (b : Int) = (BitVec.ofNat 64 (b + 256 * a)).toInt := sorry
theorem c_wa6 (c : cIn μ ar L n T) (hk : 8 * k + 8 ≤ n) (k5 : k < 100000) : ∀ (m i : Nat), m + i = 8 → (ab_run wc (d + 1) 567 6 [(2, 1), (0, k), (1, ((BitVec.ofNat 64 (wUp T k i m)).toInt)), (3, 0), (0, ((m : Int) - 1))] [] μ) = some ((1, (wdT T k).toInt), μ) := sorry
theorem c_wordAt (c : cIn μ ar L n T) (hk : 8 * k + 8 ≤ n) (k5 : k < 100000) : (ab_run wc (d + 1) 567 0 [(2, 1), (0, k), (3, 0), (3, 0), (3, 0)] [] μ) = some ((1, (wdT T k).toInt), μ) := sorry
end Ci
end
section
section Cj
variable {μ μ' μ'' : ab_M} {d : Nat} {T : Nat → Int} {n k i ar L p w dp : Nat} {x : BitVec 64}
theorem w_f1 : and64 x.toInt 3 = ((x.toNat % 4 : Nat) : Int) := sorry
theorem w32_m (y : Int) : w32 y % 65536 = y % 65536 ∧ w32 y % 8 = y % 8 := sorry
theorem w_sh : shr64 x.toInt 32 = x.toInt / 4294967296 := sorry
theorem w_f2 : and32 (w32 (shr64 x.toInt 32)) 65535 = ((wD x : Nat) : Int) := sorry
theorem w_f4 : and32 (w32 (shr64 x.toInt 32)) 7 = ((wO x : Nat) : Int) := sorry
theorem w_u (k1 : 1 ≤ k) (hk : k < 64) : ushr64 x.toInt (k : Int) = x.toInt % 18446744073709551616 / 2 ^ k := sorry
theorem w_f3 : w32 (ushr64 x.toInt 48) = ((wP x : Nat) : Int) := sorry
theorem w_f5 : ushr64 x.toInt 35 = ((wC x : Nat) : Int) := sorry
theorem w_f7 {y : Int} : shr32 (w32 y) 2 = w32 y / 4 := sorry
theorem c_bitsAt {at' data q m : Nat} (c : cIn μ ar L n T) (hm : m = 64 ∨ m < 63) (q6 : q < 100000) (d6 : data < 1000000) (a6 : at' < 20000) (hk : q < 64 * data → 8 * (at' + q / 64) + 8 ≤ n) : (ab_run wc (d + 2) 375 0 [(2, 1), (0, (at')), (0, data), (0, q), (0, m), (3, 0), (3, 0)] [] μ) = some ((1, (bt T at' data q m).toInt), μ) := sorry
def frXf (μ μ' : ab_M) : Prop := ∀ a i, a ≠ 2 → (a ≠ 1 ∨ i ≠ 41 ∧ i ≠ 42 ∧ i ≠ 43 ∧ i ≠ 44 ∧ i ≠ 40 ∧ i ≠ 33 ∧ i ≠ 45 ∧ i ≠ 46 ∧ i ≠ 47) → μ' a i = μ a i
theorem frXf.refl : frXf μ μ := sorry
theorem frXf.trans (f : frXf μ μ') (g : frXf μ' μ'') : frXf μ μ'' := sorry
def RfX (run : ab_R) (μ : ab_M) (f : Flt) : Prop := RT run (fun μ' => μ' 2 6 = f.1 ∧ μ' 2 7 = f.2 ∧ frXf μ μ')
theorem RfX.to {run : ab_R} {f : Flt} (g : RfX run μ' f) (q : frXf μ μ') : RfX run μ f := sorry
theorem RfX.cal {tag : Nat} {run : ab_R} {f : Flt} {g : Int → ab_M → ab_R} (h : RfX run μ f) : RfX (ab_cal run tag (fun r1 μ1 => some ((4, r1), μ1)) g) μ f := sorry
theorem c_refX {x y : Int} : RfX (ab_cal (ab_run wc (d + 1) 497 0 [(2, 1), (0, x), (0, y)] [] μ) 2 (fun r4 μ4 => some ((4, r4), μ4)) (fun r4 μ4 => (cond (wc_ob (r4).toNat 2) (some ((4, r4), μ4)) none))) μ (x, y) := sorry
def cXw (μ : ab_M) (ar L n : Nat) (T : Nat → Int) (w : Nat) : Prop := cIn μ ar L n T ∧ n % 8 = 0 ∧ n ≤ 4000 ∧ μ 1 35 = ((n / 8 : Nat) : Int) ∧ μ 1 40 = (w : Int) ∧ w ≤ 1000
theorem cIn.xf (c : cIn μ ar L n T) (f : frXf μ μ') : cIn μ' ar L n T := sorry
theorem c_follow {li : Nat} (c : cXw μ ar L n T w) (hp : p < n / 8) (hl : li = 0 ∨ li = 1) : if (wdT T p).toNat % 4 = li then (ab_run wc (d + 2) 401 0 [(2, 1), (0, p), (0, li), (3, 0), (3, 0)] [] μ) = some ((3, 0), ab_up μ 1 41 (aimI T p)) else RfX (ab_run wc (d + 2) 401 0 [(2, 1), (0, p), (0, li), (3, 0), (3, 0)] [] μ) μ (2, 8 * (p : Int)) := sorry
theorem cXw.xf {w' : Nat} (c : cXw μ ar L n T w) (f : frXf μ μ') (h : μ' 1 40 = (w' : Int)) (h2 : w' ≤ 1000) : cXw μ' ar L n T w' := sorry
theorem c_needWords {m : Nat} {b : Int} (c : cXw μ ar L n T w) (hp : p < n / 8) (hb : μ 1 41 = b) (b2 : -2000000000 ≤ b ∧ b < 2000000000) (hm : m < 1000000) : if b < 0 ∨ ((n / 8 : Nat) : Int) < b + (m : Int) then RfX (ab_run wc (d + 2) 459 0 [(2, 1), (0, m), (0, p)] [] μ) μ (3, 8 * (p : Int)) else (ab_run wc (d + 2) 459 0 [(2, 1), (0, m), (0, p)] [] μ) = some ((3, 0), μ) := sorry
theorem c_walk {m : Nat} (c : cXw μ ar L n T w) (hp : p < n / 8) (hm : m < 1000000) : if 1000 < w + max 1 m then RfX (ab_run wc (d + 2) 564 0 [(2, 1), (0, m), (0, p)] [] μ) μ (7, 8 * (p : Int)) else (ab_run wc (d + 2) 564 0 [(2, 1), (0, m), (0, p)] [] μ) = some ((3, 0), ab_up μ 1 40 ((w + max 1 m : Nat) : Int)) := sorry
theorem c_followRecord (c : cXw μ ar L n T w) (hp : p < n / 8) (d9 : dp < 100) : match dFR T (n / 8) p dp w with
    | .inl f => RfX (ab_run wc (d + 3) 403 0 [(2, 1), (0, p), (0, dp), (3, 0), (3, 0)] [] μ) μ f
    | .inr (b, dt, ps, w') => ∃ μ', (ab_run wc (d + 3) 403 0 [(2, 1), (0, p), (0, dp), (3, 0), (3, 0)] [] μ) = some ((3, 0), μ') ∧ μ' 1 41 = (b : Int) ∧ μ' 1 42 = (dt : Int) ∧ μ' 1 43 = (ps : Int) ∧ cXw μ' ar L n T w' ∧ μ' 1 33 = μ 1 33 ∧ frXf μ μ' ∧ μ' 1 45 = μ 1 45 := sorry
end Cj
end
section
section Ck
variable {μ μ' μ'' : ab_M} {d : Nat} {T : Nat → Int} {n k i ar L p w dp sort : Nat} {x : BitVec 64}
theorem al_d {c q m : Nat} (hc : c < 1000000000) (hq : q < 100) (hm : 1 ≤ m) (hm2 : m < 100) : w64 (Int.tdiv (w64 ((c : Int) + (q : Int))) (m : Int)) = (((c + q) / m : Nat) : Int) := sorry
theorem c_fl0 {own cn : Nat} (ho : own < 8) (hc : cn < 1000000000) {x2 : Int} (f : Int → Int → ab_R) (hf : f = fun o a => (ab_run wc (d + 1) 402 153 [(2, 1), (0, p), (0, x2), (3, 0), (3, 0), (0, o), (1, cn), (3, 0), (1, a), (3, 0)] [] μ)) :
    (if (own : Int) = 0 then f own 0 else if (own : Int) = 1 then f own (w64 (Int.tdiv (w64 ((cn : Int) + 63)) 64)) else if (own : Int) = 2 then f own (w64 (Int.tdiv (w64 ((cn : Int) + 7)) 8)) else if (own : Int) = 3 then f own (w64 (Int.tdiv (w64 ((cn : Int) + 3)) 4)) else if (own : Int) = 4 then f own (w64 (Int.tdiv (w64 ((cn : Int) + 1)) 2)) else if (own : Int) = 5 then f own cn else if (own : Int) = 6 then f own cn else if (own : Int) = 7 then f own (w64 ((cn : Int) + 1)) else f own cn) = f own ((dAll own cn : Nat) : Int) := sorry
theorem c_followListG (c : cXw μ ar L n T w) (hp : p < n / 8) : match dFL T (n / 8) p sort w with
    | .inl f => RfX (ab_run wc (d + 3) 402 0 [(2, 1), (0, p), (0, sort), (3, 0), (3, 0), (3, 0), (3, 0), (3, 0), (3, 0), (3, 0)] [] μ) μ f
    | .inr (b, cn, w') => ∃ μ', (ab_run wc (d + 3) 402 0 [(2, 1), (0, p), (0, sort), (3, 0), (3, 0), (3, 0), (3, 0), (3, 0), (3, 0), (3, 0)] [] μ) = (if sort = 2 ∨ sort = 7 then some ((3, 0), μ') else ab_cal (ab_run wc (d + 2) 456 0 [(2, 1), (1, cn), (3, 0), (0, (8 * (p : Int)))] [] μ') 3 (fun r4 μ4 => some ((4, r4), μ4)) (fun _ μ4 => some ((3, 0), μ4))) ∧ μ' 1 41 = (b : Int) ∧ μ' 1 44 = (cn : Int) ∧ cXw μ' ar L n T w' ∧ μ' 1 33 = μ 1 33 ∧ frXf μ μ' ∧ μ' 1 45 = μ 1 45 := sorry
end Ck
end
section
section Cl
variable {μ μ' μ'' : ab_M} {d : Nat} {T : Nat → Int} {n k i ar L p w dp sort Ls : Nat} {x : BitVec 64}
theorem ushr32_2 {y : Int} : ushr32 y 2 = y % 4294967296 / 4 := sorry
theorem w_f6 : ushr32 (w32 (and64 x.toInt 4294967295)) 2 = ((x.toNat % 4294967296 / 4 : Nat) : Int) := sorry
theorem c_needItX {c : Nat} {y : Int} (hl : μ 1 33 = (Ls : Int)) (l4 : Ls ≤ 400) (hc : c < 2000000000) : if 400 < Ls + c then RfX (ab_run wc (d + 2) 456 0 [(2, 1), (1, c), (3, 0), (0, y)] [] μ) μ (7, y) else (ab_run wc (d + 2) 456 0 [(2, 1), (1, c), (3, 0), (0, y)] [] μ) = some ((3, 0), ab_up μ 1 33 ((Ls + c : Nat) : Int)) := sorry
noncomputable def dFs (T : Nat → Int) (n p dp w Ls : Nat) : Flt ⊕ (Nat × Nat × Nat × Nat × Nat) := match dFL T n p 7 w with
  | .inl f => .inl f
  | .inr (b, c, w') => if 12 < dp then .inl (6, 8 * (p : Int)) else if (wdT T b).toNat % 4 ≠ 0 ∨ (wdT T b).toNat % 4294967296 / 4 * (wD (wdT T b) + wP (wdT T b)) ≠ c then .inl (9, 8 * (b : Int)) else if 400 < Ls + (wdT T b).toNat % 4294967296 / 4 then .inl (7, 8 * (p : Int)) else .inr (b, (wdT T b).toNat % 4294967296 / 4, wD (wdT T b), wP (wdT T b), w')
theorem c_followRecords (c : cXw μ ar L n T w) (hp : p < n / 8) (hl : μ 1 33 = (Ls : Int)) (l4 : Ls ≤ 400) (d9 : dp < 100) : match dFs T (n / 8) p dp w Ls with
    | .inl f => RfX (ab_run wc (d + 4) 404 0 [(2, 1), (0, p), (0, dp), (3, 0), (3, 0), (3, 0)] [] μ) μ f
    | .inr (b, m, dt, ps, w') => ∃ μ', (ab_run wc (d + 4) 404 0 [(2, 1), (0, p), (0, dp), (3, 0), (3, 0), (3, 0)] [] μ) = some ((3, 0), μ') ∧ μ' 1 41 = ((b + 1 : Nat) : Int) ∧ μ' 1 44 = (m : Int) ∧ μ' 1 42 = (dt : Int) ∧ μ' 1 43 = (ps : Int) ∧ cXw μ' ar L n T w' ∧ μ' 1 33 = ((Ls + m : Nat) : Int) ∧ frXf μ μ' ∧ μ' 1 45 = μ 1 45 := sorry
end Cl
end
section
section Cm
variable {μ μ' μ'' : ab_M} {d : Nat} {T : Nat → Int} {n k ar L p w : Nat} {kd : Int}
def cXb (μ' : ab_M) (T : Nat → Int) (n : Nat) (l : List Int) : Prop := ∃ fr : Nat, μ' 1 45 = (fr : Int) ∧ μ' 1 46 = (l.length : Int) ∧ fr + l.length ≤ n ∧ l = slc T fr l.length
theorem c_slotBytesN : ∃ μ', (ab_run wc (d + 1) 521 0 [(2, 1), (0, ((-1))), (2, (200000 + kd))] [] μ) = some ((3, 0), μ') ∧ cXb μ' T n [] ∧ μ' 1 33 = μ 1 33 ∧ μ' 1 40 = μ 1 40 ∧ frXf μ μ' := sorry
theorem c_slotBytesAt (c : cXw μ ar L n T w) (hp : p < n / 8) (L5 : L < 100000) : match dBy T (n / 8) kd p w with
    | .inl f => RfX (ab_run wc (d + 4) 521 0 [(2, 1), (0, p), (2, (200000 + kd))] [] μ) μ f
    | .inr (l, w') => ∃ μ', (ab_run wc (d + 4) 521 0 [(2, 1), (0, p), (2, (200000 + kd))] [] μ) = some ((3, 0), μ') ∧ cXb μ' T n l ∧ cXw μ' ar L n T w' ∧ μ' 1 33 = μ 1 33 ∧ frXf μ μ' := sorry
end Cm
end
section
section Tp
variable {μ μ' μ'' : ab_M} {d : Nat} {T : Nat → Int} {n p w dp : Nat} {x : BitVec 64}
def tXw (μ : ab_M) (n : Nat) (T : Nat → Int) (w : Nat) : Prop := n ≤ 500 ∧ (∀ k, k < n → μ 7907 k = (wdT T k).toInt) ∧ μ 7756 215 = (n : Int) ∧ μ 7756 216 = (w : Int) ∧ w ≤ 1000 ∧ μ 7756 17 = 0
theorem tw_bits {at' data q m : Nat} (c : tXw μ n T w) (hm : m = 64 ∨ m < 63) (q6 : q < 100000) (d6 : data < 1000000) (a6 : at' < 20000) (hk : q < 64 * data → at' + q / 64 < n) : (ab_run wt (d + 1) 11 0 [(2, 7756), (0, (at')), (0, q), (0, m), (0, data), (3, 0), (3, 0)] [] μ) = some ((1, (bt T at' data q m).toInt), μ) := sorry
def frXa (μ μ' : ab_M) : Prop := ∀ a i, (a ≠ 7756 ∨ i ≠ 226 ∧ i ≠ 227 ∧ i ≠ 228 ∧ i ≠ 229 ∧ i ≠ 230 ∧ i ≠ 231 ∧ i ≠ 232 ∧ i ≠ 216 ∧ i ≠ 17 ∧ i ≠ 18) → μ' a i = μ a i
theorem frXa.refl : frXa μ μ := sorry
theorem frXa.trans (f : frXa μ μ') (g : frXa μ' μ'') : frXa μ μ'' := sorry
def FtX (run : ab_R) (μ : ab_M) (f : Flt) : Prop := ∃ μ', run = some ((0, 0), μ') ∧ μ' 7756 17 = f.1 ∧ μ' 7756 18 = f.2 ∧ frXa μ μ'
theorem FtX.to {run : ab_R} {f : Flt} (g : FtX run μ' f) (q : frXa μ μ') : FtX run μ f := sorry
theorem tw_wrX {x y : Int} (h : μ 7756 17 = 0) : FtX (ab_cal (ab_run wt (d + 1) 340 0 [(2, 7756), (0, x), (0, y)] [] μ) 0 (fun r1 μ1 => some ((4, r1), μ1)) (fun r1 μ1 => (if r1 = 0 ∨ r1 = 1 then some ((0, r1), μ1) else none))) μ (x, y) := sorry
theorem tXw.xa {w' : Nat} (c : tXw μ n T w) (f : frXa μ μ') (h : μ' 7756 216 = (w' : Int)) (h2 : w' ≤ 1000) (h3 : μ' 7756 17 = 0) : tXw μ' n T w' := sorry
theorem tw_walk {m : Nat} (c : tXw μ n T w) (hp : p < n) (hm : m < 1000000) : if 1000 < w + max 1 m then FtX (ab_run wt (d + 2) 321 0 [(2, 7756), (1, m), (3, 0), (0, p), (3, 0), (3, 0)] [] μ) μ (7, 8 * (p : Int)) else (ab_run wt (d + 2) 321 0 [(2, 7756), (1, m), (3, 0), (0, p), (3, 0), (3, 0)] [] μ) = some ((0, 1), ab_up μ 7756 216 ((w + max 1 m : Nat) : Int)) := sorry
end Tp
end
section
section Tq
variable {μ μ' μ'' : ab_M} {d : Nat} {T : Nat → Int} {n p w dp li : Nat} {x : BitVec 64}
theorem t_u : ushr64 x.toInt 32 = ((x.toNat / 4294967296 : Nat) : Int) := sorry
theorem t_f1 : w32 (and64 x.toInt 3) = ((x.toNat % 4 : Nat) : Int) := sorry
theorem t_f2 : w32 (and64 (ushr64 x.toInt 32) 65535) = ((wD x : Nat) : Int) := sorry
theorem t_f4 : w32 (and64 (ushr64 x.toInt 32) 7) = ((wO x : Nat) : Int) := sorry
theorem t_f5 : w32 (ushr64 x.toInt 35) = ((wC x : Nat) : Int) := sorry
theorem tw_aim0 (c : tXw μ n T w) (hp : p < n) (z : wdT T p = 0) {x2 : Int} : (ab_run wt (d + 2) 1 0 [(2, 7756), (0, p), (0, x2), (3, 0), (3, 0), (3, 0), (3, 0), (3, 0), (3, 0)] [] μ) = some ((0, 1), ab_up μ 7756 231 1) := sorry
def aSz (li : Nat) (x : BitVec 64) : Nat := if li = 0 then wD x + wP x else dAll (wO x) (wC x)
def tAm (μ : ab_M) (T : Nat → Int) (p li : Nat) : Prop := μ 7756 231 = 0 ∧ μ 7756 226 = aimI T p ∧ μ 7756 227 = ((wD (wdT T p) : Nat) : Int) ∧ μ 7756 228 = ((wP (wdT T p) : Nat) : Int) ∧ μ 7756 229 = ((wO (wdT T p) : Nat) : Int) ∧ μ 7756 230 = ((wC (wdT T p) : Nat) : Int) ∧ μ 7756 232 = ((aSz li (wdT T p) : Nat) : Int)
theorem tw_aimG (c : tXw μ n T w) (hp : p < n) (nz : wdT T p ≠ 0) (hl : li = 0 ∨ li = 1) : if (wdT T p).toNat % 4 ≠ li then FtX (ab_run wt (d + 2) 1 0 [(2, 7756), (0, p), (0, li), (3, 0), (3, 0), (3, 0), (3, 0), (3, 0), (3, 0)] [] μ) μ (2, 8 * (p : Int)) else if aimI T p < 0 ∨ (n : Int) < aimI T p + ((aSz li (wdT T p) : Nat) : Int) then FtX (ab_run wt (d + 2) 1 0 [(2, 7756), (0, p), (0, li), (3, 0), (3, 0), (3, 0), (3, 0), (3, 0), (3, 0)] [] μ) μ (3, 8 * (p : Int)) else ∃ μ', (ab_run wt (d + 2) 1 0 [(2, 7756), (0, p), (0, li), (3, 0), (3, 0), (3, 0), (3, 0), (3, 0), (3, 0)] [] μ) = some ((0, 1), μ') ∧ tAm μ' T p li ∧ tXw μ' n T w ∧ frXa μ μ' := sorry
end Tq
end
section
section Tr
variable {μ μ' μ'' : ab_M} {d : Nat} {T : Nat → Int} {n p w b i pM : Nat} {k : Int}
theorem wd_nat (hT : ∀ i, i < 8 → 0 ≤ T (8 * b + i) ∧ T (8 * b + i) < 256) : ((wdT T b).toNat : Int) = T (8 * b) + 256 * T (8 * b + 1) + 65536 * T (8 * b + 2) + 16777216 * T (8 * b + 3) + 4294967296 * T (8 * b + 4) + 1099511627776 * T (8 * b + 5) + 281474976710656 * T (8 * b + 6) + 72057594037927936 * T (8 * b + 7) := sorry
theorem bt_by (hT : ∀ k, k < 8 * n → 0 ≤ T k ∧ T k < 256) (hi : 8 * b + i < 8 * n) (i6 : i < 8000) : (bt T b 1000 (8 * i) 8).toInt = T (8 * b + i) := sorry
def frXb (pM : Nat) (μ μ' : ab_M) : Prop := ∀ a i, (a ≠ 7756 ∨ i ≠ 191 ∧ i ≠ 192 ∧ i ≠ 226 ∧ i ≠ 227 ∧ i ≠ 228 ∧ i ≠ 229 ∧ i ≠ 230 ∧ i ≠ 231 ∧ i ≠ 232 ∧ i ≠ 216 ∧ i ≠ 17 ∧ i ≠ 18) → (a ≠ 7879 ∨ i < 9000 * 12 + pM ∨ 9000 * 12 + 9000 ≤ i) → (a ≠ 7868 ∨ i ≠ 12) → μ' a i = μ a i
theorem frXb.trans (f : frXb pM μ μ') (g : frXb pM μ' μ'') : frXb pM μ μ'' := sorry
theorem frXa.xb (f : frXa μ μ') : frXb pM μ μ' := sorry
def FtB (pM : Nat) (run : ab_R) (μ : ab_M) (f : Flt) : Prop := ∃ μ', run = some ((0, 0), μ') ∧ μ' 7756 17 = f.1 ∧ μ' 7756 18 = f.2 ∧ frXb pM μ μ'
theorem FtX.xb {run : ab_R} {f : Flt} (g : FtX run μ' f) (q : frXb pM μ μ') : FtB pM run μ f := sorry
theorem tw_rb136 {c : Nat} (hT : ∀ k, k < 8 * n → 0 ≤ T k ∧ T k < 256) (hb : 8 * b + c ≤ 8 * n) (n5 : n ≤ 500) (hP : pM + c ≤ 9000) : ∀ (m i : Nat) (μ : ab_M), i + m = c → tXw μ n T w → μ 7756 226 = (b : Int) → μ 7868 12 = ((pM + i : Nat) : Int) → tBy μ 7879 (9000 * 12 + pM) (slc T (8 * b) i) → ∃ μ', (ab_run wt (d + 2) 248 136 [(2, 7756), (0, 12), (0, k), (0, p), (0, c), (0, i)] [] μ) = (ab_run wt (d + 2) 248 136 [(2, 7756), (0, 12), (0, k), (0, p), (0, c), (0, c)] [] μ') ∧ tXw μ' n T w ∧ μ' 7868 12 = ((pM + c : Nat) : Int) ∧ tBy μ' 7879 (9000 * 12 + pM) (slc T (8 * b) c) ∧ ∀ a y, (a ≠ 7879 ∨ y < 9000 * 12 + pM ∨ 9000 * 12 + 9000 ≤ y) → (a ≠ 7868 ∨ y ≠ 12) → μ' a y = μ a y := sorry
end Tr
end
section
section Ts
variable {μ μ' μ'' : ab_M} {d : Nat} {T : Nat → Int} {n p w b i pM : Nat} {k : Int}
theorem frXb.ab {x : Int} {j : Nat} (h : j = 191 ∨ j = 192) : frXb pM μ (ab_up μ 7756 j x) := sorry
theorem tXw.xb {w' : Nat} (c : tXw μ n T w) (f : frXb pM μ μ') (h : μ' 7756 216 = (w' : Int)) (h2 : w' ≤ 1000) (h3 : μ' 7756 17 = 0) : tXw μ' n T w' := sorry
theorem tw_rbE {c : Nat} (hT : ∀ k, k < 8 * n → 0 ≤ T k ∧ T k < 256) (hb : 8 * b + c ≤ 8 * n) (hP : pM + c ≤ 9000) (hp : p < n) (cx : tXw μ n T w) (ha : μ 7756 226 = (b : Int)) (hq : μ 7868 12 = (pM : Int)) (hf : μ 7756 191 = (pM : Int)) (hs : μ 7756 192 = (c : Int)) : if k = 9 ∧ utf (slc T (8 * b) c) = false then FtB pM (ab_run wt (d + 3) 248 136 [(2, 7756), (0, 12), (0, k), (0, p), (0, c), (0, 0)] [] μ) μ (5, 8 * (p : Int)) else ∃ μ', (ab_run wt (d + 3) 248 136 [(2, 7756), (0, 12), (0, k), (0, p), (0, c), (0, 0)] [] μ) = some ((0, 1), μ') ∧ μ' 7756 191 = (pM : Int) ∧ μ' 7756 192 = (c : Int) ∧ tBy μ' 7879 (9000 * 12 + pM) (slc T (8 * b) c) ∧ μ' 7868 12 = ((pM + c : Nat) : Int) ∧ tXw μ' n T w ∧ frXb pM μ μ' := sorry
end Ts
end
section
section Tt
variable {μ μ' μ'' : ab_M} {d : Nat} {T : Nat → Int} {n p w pM : Nat} {k : Int}
theorem tw_readBytesAt (c : tXw μ n T w) (hT : ∀ k, k < 8 * n → 0 ≤ T k ∧ T k < 256) (hp : p < n) (hq : μ 7868 12 = (pM : Int)) (hb : pM ≤ 8 * w) : match dBy T n k p w with
    | .inl f => FtB pM (ab_run wt (d + 3) 248 0 [(2, 7756), (0, 12), (0, k), (0, p), (3, 0), (3, 0)] [] μ) μ f
    | .inr (l, w') => ∃ (μ' : ab_M) (fi : Nat), (ab_run wt (d + 3) 248 0 [(2, 7756), (0, 12), (0, k), (0, p), (3, 0), (3, 0)] [] μ) = some ((0, 1), μ') ∧ μ' 7756 191 = (fi : Int) ∧ μ' 7756 192 = (l.length : Int) ∧ fi + l.length ≤ pM + l.length ∧ tBy μ' 7879 (9000 * 12 + fi) l ∧ μ' 7868 12 = ((pM + l.length : Nat) : Int) ∧ tXw μ' n T w' ∧ frXb pM μ μ' := sorry
end Tt
end
section
section Ti
variable {S : SF} {N : NF} {h h' : He} {D D' : Nat → Nat} {r j p n t at' data ps dp : Nat} {T : Nat → Int} {v : Int} {g : Bool} {σ σ' : Sx} {V : Nat → Nat → List It} {P Q : Nat → Prop}
theorem cnt_1 {P Q : Nat → Bool} {i : Nat} : ∀ (m k : Nat), (∀ j, k ≤ j → j < k + m → j ≠ i → Q j = true → P j = true) → cnt Q m k ≤ cnt P m k + (if k ≤ i then 1 else 0) := sorry
theorem cnt_all {P : Nat → Bool} : ∀ (m k : Nat), (∀ j, k ≤ j → j < k + m → P j = true) → cnt P m k = m := sorry
theorem onN_cnt {o : Nat} : ∀ (m k : Nat), onN S t o m k = cnt (fun k => decide (S 15 t k = (o : Int))) m k := sorry
def onK (S : SF) (t o : Nat) (x : Int) : Nat := cnt (fun c => decide (S 15 t c = (o : Int) ∧ S 10 t c < x)) (fCt S t) 0
theorem onK_has {o y : Nat} (nu : nuOK S) (t1 : (t : Int) < S 0 0 0) (t2 : S 2 t 0 = 1) (hn : ∀ j, j < fCt S t → 1 ≤ S 10 t j) : ∀ x : Nat, y < onK S t o x → ∃ j, j < fCt S t ∧ S 15 t j = (o : Int) ∧ onK S t o (S 10 t j) = y := sorry
theorem tgO_sur {o x : Nat} (nu : nuOK S) (t1 : (t : Int) < S 0 0 0) (t2 : S 2 t 0 = 1) (hn : ∀ j, j < fCt S t → 1 ≤ S 10 t j ∧ S 10 t j ≤ 2000) (x1 : 1 ≤ x) (x2 : x ≤ onN S t o (fCt S t) 0) : ∃ j, j < fCt S t ∧ S 15 t j = (o : Int) ∧ tgO S t j = x := sorry
theorem tgO_le {o : Nat} (hj : j < fCt S t) (e : S 15 t j = (o : Int)) : 1 ≤ tgO S t j ∧ tgO S t j ≤ onN S t o (fCt S t) 0 := sorry
theorem bn_sur (bn : bnOK S) (t1 : (t : Int) < S 0 0 0) (t2 : S 2 t 0 = 1) (hj : j < fCt S t) : ∃ i, i < fCt S t ∧ (S 20 t i).toNat = j := sorry
theorem bt_16 {a d q : Nat} : (bt T a d q 16).toNat < 65536 := sorry
theorem bt_i16 {a d q : Nat} : w32 (bt T a d q 16).toInt = (((bt T a d q 16).toNat : Nat) : Int) := sorry
def loOK (S : SF) : Prop := ∀ t : Nat, (t : Int) < S 0 0 0 → S 2 t 0 = 1 → ∀ o : Nat, (o : Int) < S 4 t 0 → (0 ≤ S 30 t o ∧ S 30 t o < 4096) ∧ ∀ j, j < fCt S t → S 15 t j = (o : Int) → S 18 t j = S 30 t o
noncomputable def vlN (S : SF) (N : NF) (T : Nat → Int) (t at' data j : Nat) : List It := match dVl S T t at' data j with
  | none => []
  | some v => if dfB S N t j v [] = true then [] else [itN v]
noncomputable def nbV (S : SF) (N : NF) (T : Nat → Int) (t at' data : Nat) (P : Nat → Prop) (r : Nat) (V : Nat → Nat → List It) : Nat → Nat → List It := fun a j => @ite _ (a = r ∧ j < fCt S t ∧ P j) (Classical.propDecidable _) (vlN S N T t at' data j) (V a j)
theorem nbV_eq (h : ∀ c, c < fCt S t → (P c ↔ Q c)) : nbV S N T t at' data P r V = nbV S N T t at' data Q r V := sorry
theorem nbV_no (h : ∀ c, c < fCt S t → ¬ P c) : nbV S N T t at' data P r V = V := sorry
theorem nbV_o {a : Nat} (h : a ≠ r) : nbV S N T t at' data P r V a = V a := sorry
theorem nbV_c (v0 : ∀ j, V r j = []) (a c : Nat) (hh : nbV S N T t at' data P r V r c ≠ []) : dVl S T t at' data c ≠ none := sorry
theorem nbV_0 (v0 : ∀ j, V r j = []) (e : dVl S T t at' data j = none) : nbV S N T t at' data (fun c => P c ∨ c = j) r V = nbV S N T t at' data P r V := sorry
theorem nbV_x (v0 : ∀ j, V r j = []) (h1 : ∀ c, c < fCt S t → P c → Q c) (h2 : ∀ c, c < fCt S t → Q c → ¬ P c → dVl S T t at' data c = none) : nbV S N T t at' data Q r V = nbV S N T t at' data P r V := sorry
theorem dVl_nch (o : 0 ≤ S 15 t j) (hc : ¬ chs S T t at' data j) : dVl S T t at' data j = none := sorry
theorem nbV_1 (la : laOK S) (nu : nuOK S) (t1 : (t : Int) < S 0 0 0) (t2 : S 2 t 0 = 1) (hj : j < fCt S t) (v0 : ∀ j, V r j = []) (e : dVl S T t at' data j = some v) : upV (lvO S t r j (nbV S N T t at' data P r V)) r j (if dfB S N t j v [] = true then [] else [itN v]) = nbV S N T t at' data (fun c => P c ∨ c = j) r V := sorry
theorem dNs_cl (la : laOK S) (bn : bnOK S) (nu : nuOK S) (t1 : (t : Int) < S 0 0 0) (t2 : S 2 t 0 = 1) (v0 : ∀ j, h.2.2.1 r j = []) (ht : h.2.1 r = t) : ∀ (q i : Nat) (σ : Sx), i + q = fCt S t → σ.1 = (h.1, h.2.1, nbV S N T t at' data (fun c => ∃ i', i' < i ∧ (S 20 t i').toNat = c) r h.2.2.1, h.2.2.2) → (dNs S N false T r t at' data q i σ).1 = (h.1, h.2.1, nbV S N T t at' data (fun _ => True) r h.2.2.1, h.2.2.2) ∧ (dNs S N false T r t at' data q i σ).2.2.2 = σ.2.2.2 := sorry
theorem dNs_end (la : laOK S) (bn : bnOK S) (nu : nuOK S) (t1 : (t : Int) < S 0 0 0) (t2 : S 2 t 0 = 1) (v0 : ∀ j, σ.1.2.2.1 r j = []) (ht : σ.1.2.1 r = t) : (dNs S N false T r t at' data (fCt S t) 0 σ).1 = (σ.1.1, σ.1.2.1, nbV S N T t at' data (fun _ => True) r σ.1.2.2.1, σ.1.2.2.2) ∧ (dNs S N false T r t at' data (fCt S t) 0 σ).2.2.2 = σ.2.2.2 := sorry
end Ti
end
section
section Cx
variable {μ μ' μ'' : ab_M} {d : Nat} {T : Nat → Int} {n : Nat} {S : SF} {N : NF} {A cr ci cb kS b ar L : Nat} {σ σ' : Sx} {h h' h'' : He} {X : Rsv} {r j p q it t s s0 s1 κ κ' u u' w : Nat} {Dp : Nat → Nat}
def frXd (A s0 : Nat) (μ μ' : ab_M) : Prop := (∀ a i, ¬ inM A a → a ≠ 2 → (a ≠ 1 ∨ i ≠ 41 ∧ i ≠ 42 ∧ i ≠ 43 ∧ i ≠ 44 ∧ i ≠ 40 ∧ i ≠ 33 ∧ i ≠ 45 ∧ i ≠ 46 ∧ i ≠ 47 ∧ i ≠ 36 ∧ i ≠ 37 ∧ i ≠ 38 ∧ i ≠ 39) → μ' a i = μ a i) ∧ (∀ i, i < 3 → μ' A i = μ A i) ∧ ∀ i, i < s0 → μ' (msA A 10) i = μ (msA A 10) i
theorem frXd.refl : frXd A s0 μ μ := sorry
theorem frXd.trans (f : frXd A s0 μ μ') (g : frXd A s0 μ' μ'') : frXd A s0 μ μ'' := sorry
theorem frXd.le (f : frXd A s0 μ μ') (l : s1 ≤ s0) : frXd A s1 μ μ' := sorry
theorem frXf.m (f : frXf μ μ') (hm : isM A cr ci cb) {a : Nat} (ha : inM A a) (i : Nat) : μ' a i = μ a i := sorry
theorem frXf.xd (f : frXf μ μ') (hm : isM A cr ci cb) : frXd A s0 μ μ' := sorry
theorem frXf.ky (f : frXf μ μ') (hm : isM A cr ci cb) : frKy A μ μ' := sorry
theorem frM.xd (f : frM A μ μ') (h : (s0 : Int) ≤ μ A 8) : frXd A s0 μ μ' := sorry
theorem cMS.xf (c : cMS μ A kS b S N) (hm : isM A cr ci cb) (f : frXf μ μ') : cMS μ' A kS b S N := sorry
def RfXd (run : ab_R) (A : Nat) (μ : ab_M) (f : Flt) : Prop := RT run (fun μ' => μ' 2 6 = f.1 ∧ μ' 2 7 = f.2 ∧ frXd A 0 μ μ')
theorem RfX.xd {run : ab_R} {f : Flt} (g : RfX run μ f) (hm : isM A cr ci cb) : RfXd run A μ f := sorry
theorem RfXd.to {run : ab_R} {f : Flt} (g : RfXd run A μ' f) (q : frXd A s0 μ μ') : RfXd run A μ f := sorry
theorem RfXd.cal {tag : Nat} {run : ab_R} {f : Flt} {g : Int → ab_M → ab_R} (h : RfXd run A μ f) : RfXd (ab_cal run tag (fun r1 μ1 => some ((4, r1), μ1)) g) A μ f := sorry
def CXd (S : SF) (N : NF) (T : Nat → Int) (n A kS b ar L : Nat) (X : Rsv) (κ u : Nat) (μ : ab_M) (σ : Sx) : Prop := (cXw μ ar L n T σ.2.2.2.1 ∧ ¬ inM A ar ∧ L < 100000) ∧ cMS μ A kS b S N ∧ (μ 1 33 = (σ.2.2.2.2.1 : Int) ∧ σ.2.2.2.2.1 ≤ 400 ∧ σ.2.2.2.2.2 ≤ 8 * σ.2.2.2.1 ∧ 0 ≤ μ 1 45) ∧ hbX κ σ ∧ ∃ ni nu us, CM X S μ A 2600 9000 12000 σ.1.1 σ.1.2.1 σ.1.2.2.1 σ.1.2.2.2 ni nu us ∧ ni + κ ≤ σ.2.2.2.2.1 ∧ us + u ≤ σ.2.2.2.2.2
theorem CXd.ml (c : CXd S N T n A kS b ar L X κ u μ σ) (hm : isM A 2600 9000 12000) (f : frXf μ μ') (cw : cXw μ' ar L n T σ'.2.2.2.1) (hl : μ' 1 33 = (σ'.2.2.2.2.1 : Int)) (h0 : 0 ≤ μ' 1 45) (e : σ'.1 = σ.1) (l4 : σ'.2.2.2.2.1 ≤ 400) (b8 : σ'.2.2.2.2.2 ≤ 8 * σ'.2.2.2.1) (hq : κ' + σ.2.2.2.2.1 ≤ κ + σ'.2.2.2.2.1) (hu : u' + σ.2.2.2.2.2 ≤ u + σ'.2.2.2.2.2) (hw : σ.2.2.2.1 ≤ σ'.2.2.2.1) : CXd S N T n A kS b ar L X κ' u' μ' σ' := sorry
theorem cIn.fm (c : cIn μ ar L n T) (na : ¬ inM A ar) (fm : frM A μ μ') (hm : isM A cr ci cb) : cIn μ' ar L n T := sorry
theorem cXw.fm (c : cXw μ ar L n T w) (na : ¬ inM A ar) (fm : frM A μ μ') (hm : isM A cr ci cb) : cXw μ' ar L n T w := sorry
theorem CXd.fm {ni nu us : Nat} (c : CXd S N T n A kS b ar L X κ u μ σ) (hm : isM A 2600 9000 12000) (fm : frM A μ μ') (cm : CM X S μ' A 2600 9000 12000 σ'.1.1 σ'.1.2.1 σ'.1.2.2.1 σ'.1.2.2.2 ni nu us) (e : σ'.2.2.2 = σ.2.2.2) (hb : hbX κ' σ') (hi : ni + κ' ≤ σ'.2.2.2.2.1) (hu : us + u' ≤ σ'.2.2.2.2.2) : CXd S N T n A kS b ar L X κ' u' μ' σ' := sorry
theorem CXd.sl (c : CXd S N T n A kS b ar L X κ u μ σ) : μ A 8 = (bsF S σ.1.2.1 σ.1.1 : Int) := sorry
theorem CXd.le (c : CXd S N T n A kS b ar L X κ u μ σ) (h1 : κ' ≤ κ) (h2 : u' ≤ u) : CXd S N T n A kS b ar L X κ' u' μ σ := sorry
theorem CXd.tl {v : Int} (c : CXd S N T n A kS b ar L X κ u μ σ) (hm : isM A 2600 9000 12000) : CXd S N T n A kS b ar L X κ u (ab_up μ (msA A 10) s v) σ := sorry
theorem frXd.tl {v : Int} (h : s0 ≤ s) : frXd A s0 μ (ab_up μ (msA A 10) s v) := sorry
theorem frKy.tl {v : Int} : frKy A μ (ab_up μ (msA A 10) s v) := sorry
def cXz (S : SF) (N : NF) (T : Nat → Int) (n A kS b ar L : Nat) (X : Rsv) (run : ab_R) (μ : ab_M) (s0 κ : Nat) : Flt ⊕ Sx → Prop
  | .inl f => RfXd run A μ f
  | .inr σ' => R3 run (fun μ' => CXd S N T n A kS b ar L X κ 0 μ' σ' ∧ frXd A s0 μ μ' ∧ frKy A μ μ')
theorem cXz.to {run run' : ab_R} {R : Flt ⊕ Sx} (x : cXz S N T n A kS b ar L X run μ' s0 κ R) (f : frXd A s0 μ μ') (fk : frKy A μ μ') (e : run' = run) : cXz S N T n A kS b ar L X run' μ s0 κ R := sorry
theorem cXz.ret {run : ab_R} {R : Flt ⊕ Sx} (x : cXz S N T n A kS b ar L X run μ s0 κ R) : cXz S N T n A kS b ar L X (ab_cal run 3 (fun r1 μ1 => some ((4, r1), μ1)) (fun _ μ1 => some ((3, 0), μ1))) μ s0 κ R := sorry
theorem cXz.le {run : ab_R} {R : Flt ⊕ Sx} (x : cXz S N T n A kS b ar L X run μ s0 κ R) (h : s1 ≤ s0) : cXz S N T n A kS b ar L X run μ s1 κ R := sorry
def PXd (S : SF) (N : NF) (T : Nat → Int) (n A kS b ar L : Nat) (rec : Rx) : Prop := ∀ (D : Nat) (μ : ab_M) (X : Rsv) (r dp at' data ps : Nat) (σ : Sx) (κ : Nat) (Dp : Nat → Nat), 5 * (12 - dp) + 16 ≤ D → dp ≤ 12 → at' + data + ps ≤ n / 8 → CXd S N T n A kS b ar L X κ 0 μ σ → hIn S σ.1 Dp → r < σ.1.1 → Dp r = dp → (∀ j, σ.1.2.2.1 r j = []) → (∀ j, j < fCt S (σ.1.2.1 r) → μ (msA A 10) (bsF S σ.1.2.1 r + j) = 0) → rec r (σ.1.2.1 r) dp at' data ps σ ≠ .inl ovr →
  cXz S N T n A kS b ar L X (ab_run wc D 531 0 [(2, 1), (2, A), (0, r), (0, (at')), (0, data), (0, ps), (0, dp), (3, 0), (3, 0), (3, 0), (3, 0), (3, 0)] [] μ) μ (bsF S σ.1.2.1 r) κ (rec r (σ.1.2.1 r) dp at' data ps σ)
end Cx
end
section
section Cx
variable {μ μ' μ'' : ab_M} {d : Nat} {T : Nat → Int} {n : Nat} {S : SF} {N : NF} {A cr ci cb kS b ar L : Nat} {σ σ' : Sx} {h h' h'' : He} {X : Rsv} {r j p q it t s s0 s1 κ κ' u u' w at' data ps dp o : Nat} {Dp : Nat → Nat} {P : Nat → Prop}
theorem c_tagged2 {x : Nat} (ms : cMS μ A kS b S N) (tt : (t : Int) < S 0 0 0 ∧ S 2 t 0 = 1) : ∀ (m k : Nat), k + m = fCt S t → (∃ j, j < fCt S t ∧ S 15 t j = (o : Int) ∧ tgO S t j = x ∧ (ab_run wc (d + 2) 695 2 [(2, (tyA b t)), (0, o), (0, x), (0, k)] [] μ) = some ((2, ((fdA b t j : Nat) : Int)), μ)) ∨ ((∀ j, k ≤ j → j < fCt S t → ¬ (S 15 t j = (o : Int) ∧ tgO S t j = x)) ∧ (ab_run wc (d + 2) 695 2 [(2, (tyA b t)), (0, o), (0, x), (0, k)] [] μ) = some ((2, 0), μ)) := sorry
noncomputable abbrev nbS (S : SF) (N : NF) (T : Nat → Int) (t at' data : Nat) (P : Nat → Prop) (r : Nat) (σ : Sx) : Sx := ((σ.1.1, σ.1.2.1, nbV S N T t at' data P r σ.1.2.2.1, σ.1.2.2.2), σ.2)
theorem c_num {v : Int} (la : laOK S) (nu : nuOK S) (hm : isM A 2600 9000 12000) (cc : CXd S N T n A kS b ar L X κ 0 μ (nbS S N T t at' data P r σ)) (hr : r < σ.1.1) (ht : σ.1.2.1 r = t) (tO : (t : Int) < S 0 0 0 ∧ S 2 t 0 = 1) (hj : j < fCt S t) (v0 : ∀ j, σ.1.2.2.1 r j = []) (e : dVl S T t at' data j = some v) : ∃ μ', (ab_run wc (d + 3) 512 0 [(2, 1), (2, A), (0, r), (0, j), (1, v), (3, 0), (3, 0), (3, 0)] [] μ) = some ((3, 0), μ') ∧ CXd S N T n A kS b ar L X κ 0 μ' (nbS S N T t at' data (fun c => P c ∨ c = j) r σ) ∧ frM A μ μ' ∧ frKy A μ μ' := sorry
theorem CXd.nb {Q : Nat → Prop} (cc : CXd S N T n A kS b ar L X κ u μ (nbS S N T t at' data P r σ)) (e : nbV S N T t at' data Q r σ.1.2.2.1 = nbV S N T t at' data P r σ.1.2.2.1) : CXd S N T n A kS b ar L X κ u μ (nbS S N T t at' data Q r σ) := sorry
def tdX (μ : ab_M) (A : Nat) (S : SF) (T : Nat → Int) (t at' data bs : Nat) (o : Int) : Prop := ∀ j, j < fCt S t → μ (msA A 10) (bs + j) = if 0 ≤ S 15 t j ∧ S 15 t j < o ∧ chs S T t at' data j then 1 else 0
theorem c_ones {D : Nat} (la : laOK S) (nu : nuOK S) (lo : loOK S) (ok : scOK S N) (hm : isM A 2600 9000 12000) (hr : r < σ.1.1) (ht : σ.1.2.1 r = t) (tO : (t : Int) < S 0 0 0 ∧ S 2 t 0 = 1) (v0 : ∀ j, σ.1.2.2.1 r j = []) (hat : at' + data + ps ≤ n / 8) (n4 : n ≤ 4000) : ∀ (m o : Nat) (μ : ab_M), (o : Int) + m = S 4 t 0 → CXd S N T n A kS b ar L X κ 0 μ (nbS S N T t at' data (fun c => 0 ≤ S 15 t c ∧ S 15 t c < (o : Int)) r σ) → tdX μ A S T t at' data (bsF S σ.1.2.1 r) o →
    ((∃ o' : Nat, o ≤ o' ∧ (o' : Int) < S 4 t 0 ∧ onN S t o' (fCt S t) 0 < (bt T at' data (S 30 t o').toNat 16).toNat) → RfXd (ab_run wc (D + 5) 531 11 [(2, 1), (2, A), (0, r), (0, (at')), (0, data), (0, ps), (0, dp), (2, (tyA b t)), (0, o), (3, 0), (3, 0), (3, 0)] [] μ) A μ (8, 8 * (at' : Int))) ∧
    (¬ (∃ o' : Nat, o ≤ o' ∧ (o' : Int) < S 4 t 0 ∧ onN S t o' (fCt S t) 0 < (bt T at' data (S 30 t o').toNat 16).toNat) → ∃ μ', (ab_run wc (D + 5) 531 11 [(2, 1), (2, A), (0, r), (0, (at')), (0, data), (0, ps), (0, dp), (2, (tyA b t)), (0, o), (3, 0), (3, 0), (3, 0)] [] μ) = (ab_run wc (D + 5) 531 151 [(2, 1), (2, A), (0, r), (0, (at')), (0, data), (0, ps), (0, dp), (2, (tyA b t)), (0, 0), (3, 0), (3, 0), (3, 0)] [] μ') ∧ CXd S N T n A kS b ar L X κ 0 μ' (nbS S N T t at' data (fun c => 0 ≤ S 15 t c) r σ) ∧ tdX μ' A S T t at' data (bsF S σ.1.2.1 r) (S 4 t 0) ∧ frXd A (bsF S σ.1.2.1 r) μ μ' ∧ frKy A μ μ') := sorry
theorem bt_z {x : BitVec 64} : lcm3 x.toInt 0 = 0 ↔ x = 0 := sorry
theorem c_219 {D : Nat} {v : Int} (la : laOK S) (nu : nuOK S) (ok : scOK S N) (hm : isM A 2600 9000 12000) (hr : r < σ.1.1) (ht : σ.1.2.1 r = t) (tO : (t : Int) < S 0 0 0 ∧ S 2 t 0 = 1) (v0 : ∀ j, σ.1.2.2.1 r j = []) (hat : at' + data + ps ≤ n / 8) (n4 : n ≤ 4000) (cc : CXd S N T n A kS b ar L X κ 0 μ (nbS S N T t at' data P r σ)) (hj : j < fCt S t) (o : S 15 t j < 0) (ev : dVl S T t at' data j = some v) :
    ∃ μ', (ab_run wc (D + 5) 531 219 [(2, 1), (2, A), (0, r), (0, (at')), (0, data), (0, ps), (0, dp), (2, (tyA b t)), (0, j), (2, (fdA b t j)), (3, 0), (3, 0)] [] μ) = (ab_run wc (D + 5) 531 151 [(2, 1), (2, A), (0, r), (0, (at')), (0, data), (0, ps), (0, dp), (2, (tyA b t)), (0, (((j + 1 : Nat) : Int))), (3, 0), (3, 0), (3, 0)] [] μ') ∧ CXd S N T n A kS b ar L X κ 0 μ' (nbS S N T t at' data (fun c => P c ∨ c = j) r σ) ∧ frM A μ μ' ∧ frKy A μ μ' := sorry
theorem c_nums {D : Nat} (la : laOK S) (nu : nuOK S) (ok : scOK S N) (hm : isM A 2600 9000 12000) (hr : r < σ.1.1) (ht : σ.1.2.1 r = t) (tO : (t : Int) < S 0 0 0 ∧ S 2 t 0 = 1) (v0 : ∀ j, σ.1.2.2.1 r j = []) (hat : at' + data + ps ≤ n / 8) (n4 : n ≤ 4000) : ∀ (m j : Nat) (μ : ab_M), j + m = fCt S t → CXd S N T n A kS b ar L X κ 0 μ (nbS S N T t at' data (fun c => 0 ≤ S 15 t c ∨ c < j) r σ) →
    ∃ μ', (ab_run wc (D + 5) 531 151 [(2, 1), (2, A), (0, r), (0, (at')), (0, data), (0, ps), (0, dp), (2, (tyA b t)), (0, j), (3, 0), (3, 0), (3, 0)] [] μ) = (ab_run wc (D + 5) 531 287 [(2, 1), (2, A), (0, r), (0, (at')), (0, data), (0, ps), (0, dp), (2, (tyA b t)), (0, 0), (3, 0), (3, 0), (3, 0)] [] μ') ∧ CXd S N T n A kS b ar L X κ 0 μ' (nbS S N T t at' data (fun _ => True) r σ) ∧ frM A μ μ' ∧ frKy A μ μ' := sorry
end Cx
end
section
section Cx
variable {μ μ' μ'' : ab_M} {d : Nat} {T : Nat → Int} {n : Nat} {S : SF} {N : NF} {A cr ci cb kS b ar L : Nat} {σ σ' : Sx} {h h' h'' : He} {X : Rsv} {r j p q it t s s0 s1 κ κ' u u' w at' data ps dp o : Nat} {Dp : Nat → Nat}
theorem c_xPut (hm : isM A 2600 9000 12000) (cc : CXd S N T n A kS b ar L X (κ + 1) u μ σ) (hr : r < σ.1.1) (ht : σ.1.2.1 r = t) (hj : j < fCt S t) (m2 : S 11 t j = 2) (k14 : S 14 t j = -2) (hs : s = bsF S σ.1.2.1 r + j) :
    ∃ (it : Nat) (μ1 μ2 : ab_M), (ab_run wc (d + 1) 616 0 [(2, A)] [] μ) = some ((0, (it : Int)), μ1) ∧ (ab_run wc (d + 1) 611 0 [(2, A), (0, s), (0, it)] [] μ1) = some ((3, 0), μ2) ∧ itm μ2 A s (σ.1.2.2.1 r j).length = it ∧ CXd S N T n A kS b ar L X κ u μ2 ((σ.1.1, σ.1.2.1, upV σ.1.2.2.1 r j (σ.1.2.2.1 r j ++ [(0, [], 0, [], hole)]), σ.1.2.2.2), σ.2) ∧ frM A μ μ2 ∧ frKy A μ μ2 := sorry
theorem dPut_2 {v : Int} {l : List Int} (m2 : S 11 (σ.1.2.1 r) j = 2) : ∃ U', dPut S N false r j v l σ = ((σ.1.1, σ.1.2.1, upV σ.1.2.2.1 r j (σ.1.2.2.1 r j ++ [(0, [], v, l, 0)]), σ.1.2.2.2), U', σ.2.2) := sorry
theorem kS_6 {k : Int} (h1 : 0 ≤ k) (h2 : k ≤ 12) (h3 : k ≠ 12) : kSort k = 6 ↔ k = 9 ∨ k = 10 := sorry
theorem kb_nat {k : Int} : kBits k = (((kBits k).toNat : Nat) : Int) ∧ ((kBits k).toNat = 64 ∨ (kBits k).toNat < 63) := sorry
theorem c_it62 {D c0 b0 : Nat} (hm : isM A 2600 9000 12000) (tO : (t : Int) < S 0 0 0 ∧ S 2 t 0 = 1) (hj : j < fCt S t) (m2 : S 11 t j = 2) (k14 : S 14 t j = -2) (h12 : S 12 t j ≠ 12) (hb0 : b0 ≤ n / 8) (hbc : S 12 t j = 9 ∨ S 12 t j = 10 → b0 + c0 ≤ n / 8) (hc0 : c0 ≤ 400) : ∀ (m i : Nat) (μ : ab_M) (σ : Sx), i + m = c0 → CXd S N T n A kS b ar L X (κ + m) 0 μ σ → r < σ.1.1 → σ.1.2.1 r = t → s = bsF S σ.1.2.1 r + j → s0 ≤ bsF S σ.1.2.1 σ.1.1 →
    cXz S N T n A kS b ar L X (ab_run wc (D + 6) 525 62 [(2, 1), (2, A), (0, s), (2, (fdA b t j)), (3, 0), (3, 0), (0, (kSort (S 12 t j))), (0, b0), (0, c0), (0, i), (3, 0)] [] μ) μ s0 κ (dIt S N false T (n / 8) r j b0 (S 12 t j) m i σ) := sorry
end Cx
end
section
section Cx
variable {μ μ' μ'' : ab_M} {d : Nat} {T : Nat → Int} {n : Nat} {S : SF} {N : NF} {A cr ci cb kS b ar L : Nat} {σ σ' : Sx} {h h' h'' : He} {X : Rsv} {r j p q it t s s0 s1 κ κ' u u' w at' data ps dp o pos dt : Nat} {Dp : Nat → Nat} {y : It} {key : Int × List Int}
def frX1 (μ μ' : ab_M) : Prop := ∀ a i, (a ≠ 1 ∨ i ≠ 46 ∧ i ≠ 47 ∧ i ≠ 36 ∧ i ≠ 37 ∧ i ≠ 38 ∧ i ≠ 39) → μ' a i = μ a i
theorem frX1.trans (f : frX1 μ μ') (g : frX1 μ' μ'') : frX1 μ μ'' := sorry
theorem frX1.m (f : frX1 μ μ') (hm : isM A cr ci cb) {a : Nat} (ha : inM A a) (i : Nat) : μ' a i = μ a i := sorry
theorem frX1.xd (f : frX1 μ μ') (hm : isM A cr ci cb) : frXd A s0 μ μ' := sorry
theorem frX1.ky (f : frX1 μ μ') (hm : isM A cr ci cb) : frKy A μ μ' := sorry
theorem cXw.x1 (c : cXw μ ar L n T w) (f : frX1 μ μ') : cXw μ' ar L n T w := sorry
theorem CXd.x1 (c : CXd S N T n A kS b ar L X κ u μ σ) (hm : isM A 2600 9000 12000) (f : frX1 μ μ') : CXd S N T n A kS b ar L X κ u μ' σ := sorry
theorem c_xIns {k v : Int} {l : List Int} {ln : Int} (hm : isM A 2600 9000 12000) (cc : CXd S N T n A kS b ar L X (κ + 1) l.length μ σ) (i : hIn S σ.1 Dp) (hr : r < σ.1.1) (ht : σ.1.2.1 r = t) (hj : j < fCt S t) (m3 : S 11 t j = 3) (hk : S 14 t j = k) (k1 : 1 ≤ k ∧ k ≤ 9) (hs : s = bsF S σ.1.2.1 r + j) (hl : kyA μ k ar o ln l) (vk : (lng v ∧ byt l) ∧ (k ≠ 9 → l = []) ∧ (k = 9 → v = 0)) (kd : kDp k v l (σ.1.2.2.1 r j) = []) :
    ∃ (it : Nat) (μ2 : ab_M), (ab_run wc (d + 5) 411 0 [(2, 1), (2, A), (0, s), (2, (200000 + k)), (1, v), (3, 0), (2, ar), (0, o), (0, ln), (3, 0), (3, 0), (3, 0)] [] μ) = some ((0, (it : Int)), μ2) ∧ itm μ2 A s (σ.1.2.2.1 r j).length = it ∧ CXd S N T n A kS b ar L X κ 0 μ2 ((σ.1.1, σ.1.2.1, upV σ.1.2.2.1 r j (σ.1.2.2.1 r j ++ [kyI k v l]), σ.1.2.2.2), σ.2) ∧ kPn μ2 A k it (v, l) ∧ frM A μ μ2 ∧ frKy A μ μ2 := sorry
theorem CM.endU {ni nu us nr : Nat} {ty : Nat → Nat} {V : Nat → Nat → List It} {U : Nat → List Un} {g : Nat} {x : Int} (hg : g = 18 ∨ g = 20) (cm : CM X S μ A cr ci cb nr ty (upV V r j (V r j ++ [y])) U ni nu us) (hr : r < nr) (hj : j < fCt S (ty r)) (my : 2 ≤ S 11 (ty r) j) (hs : s = bsF S ty r + j) (hit : itm μ A s (V r j).length = it) (hy : y.2.2.2.2 = hole ∨ fSo (S 12 (ty r) j) = 0 ∧ g = 20) :
    CM X S (ab_up μ (msA A g) it x) A cr ci cb nr ty (upV V r j (V r j ++ [y])) U ni nu us ∧ frM A μ (ab_up μ (msA A g) it x) ∧ frKy A μ (ab_up μ (msA A g) it x) ∧ itm (ab_up μ (msA A g) it x) A s (V r j).length = it := sorry
def cXe (S : SF) (N : NF) (T : Nat → Int) (n A kS b ar L : Nat) (X : Rsv) (run : ab_R) (μ : ab_M) (s0 κ : Nat) (k : Int) (key : Int × List Int) : Flt ⊕ Sx → Prop
  | .inl f => RfXd run A μ f
  | .inr σ' => R0 run (fun v μ' => CXd S N T n A kS b ar L X κ 0 μ' σ' ∧ frXd A s0 μ μ' ∧ frKy A μ μ' ∧ kPn μ' A k v key)
theorem cXe.to {run run' : ab_R} {k : Int} {R : Flt ⊕ Sx} (x : cXe S N T n A kS b ar L X run μ' s0 κ k key R) (f : frXd A s0 μ μ') (fk : frKy A μ μ') (e : run' = run) : cXe S N T n A kS b ar L X run' μ s0 κ k key R := sorry
theorem c_needZ {z dp : Nat} (h : μ 1 47 = 8 * (z : Int)) (hd : dp < 100) : (12 < dp → RfX (ab_run wc (d + 2) 460 0 [(2, 1), (0, dp)] [] μ) μ (6, 8 * (z : Int))) ∧ (¬ 12 < dp → (ab_run wc (d + 2) 460 0 [(2, 1), (0, dp)] [] μ) = some ((3, 0), μ)) := sorry
end Cx
end
section
section Cx
variable {μ μ' μ'' : ab_M} {d : Nat} {T : Nat → Int} {n : Nat} {S : SF} {N : NF} {A cr ci cb kS b ar L : Nat} {σ σ' : Sx} {h h' h'' : He} {X : Rsv} {r j p q it t s s0 s1 κ κ' u u' w at' data ps dp o pos dt : Nat} {Dp : Nat → Nat} {y : It} {key : Int × List Int}
theorem c_xRec {μ : ab_M} (hm : isM A 2600 9000 12000) (ok : scOK S N) (cc : CXd S N T n A kS b ar L X κ 0 μ ((σ.1.1, σ.1.2.1, upV σ.1.2.2.1 r j (σ.1.2.2.1 r j ++ [y]), σ.1.2.2.2), σ.2)) (hb : hbX (κ + 1) σ) (hy : y.1 = key.1 ∧ y.2.1 = key.2) (i : hIn S σ.1 Dp) (hr : r < σ.1.1) (ht : σ.1.2.1 r = t) (hj : j < fCt S t) (m2 : 2 ≤ S 11 t j ∧ S 11 t j ≤ 3) (z12 : S 12 t j = 12) (hd : Dp r = dp) (hs : s = bsF S σ.1.2.1 r + j) (hit : itm μ A s (σ.1.2.2.1 r j).length = it) (kd : S 11 t j = 3 → kDp (S 14 t j) key.1 key.2 (σ.1.2.2.1 r j) = []) (k0 : S 11 t j ≠ 3 → key = (0, [])) :
    ∃ μ2, (ab_run wc (d + 2) 462 0 [(2, 1), (2, A), (0, (S 13 t j))] [] μ) = some ((0, (σ.1.1 : Int)), μ2) ∧ it < 9000 ∧ CXd S N T n A kS b ar L X κ 0 (ab_up μ2 (msA A 21) it (σ.1.1 : Int)) (sxH σ (hIr S σ.1 r j key)) ∧ frM A μ (ab_up μ2 (msA A 21) it (σ.1.1 : Int)) ∧ frKy A μ (ab_up μ2 (msA A 21) it (σ.1.1 : Int)) ∧ (hIr S σ.1 r j key).2.1 σ.1.1 = (S 13 t j).toNat ∧ (∀ x, (hIr S σ.1 r j key).2.2.1 σ.1.1 x = []) ∧ bsF S (hIr S σ.1 r j key).2.1 σ.1.1 = bsF S σ.1.2.1 σ.1.1 ∧ ∀ x, x < fCt S (S 13 t j).toNat → ab_up μ2 (msA A 21) it (σ.1.1 : Int) (msA A 10) (bsF S σ.1.2.1 σ.1.1 + x) = 0 := sorry
theorem c_e268 {rec : Rx} {D : Nat} {x14 : Nat} (ih : PXd S N T n A kS b ar L rec) (ok : scOK S N) (hD : 5 * (12 - dp) + 12 ≤ D) (hm : isM A 2600 9000 12000) (cc : CXd S N T n A kS b ar L X κ 0 μ (sxH σ (hIr S σ.1 r j key))) (i : hIn S σ.1 Dp) (hr : r < σ.1.1) (ht : σ.1.2.1 r = t) (hj : j < fCt S t) (z12 : S 12 t j = 12) (hd : Dp r = dp) (hdp : dp ≤ 12) (hx : x14 = dPi S t j) (hpos : pos + dt + ps ≤ n / 8) (kk : S 11 t j = 3 → (lng key.1 ∧ byt key.2) ∧ (S 14 t j ≠ 9 → key.2 = []) ∧ (S 14 t j = 9 → key.1 = 0)) (et : (hIr S σ.1 r j key).2.1 σ.1.1 = (S 13 t j).toNat) (ve : ∀ x, (hIr S σ.1 r j key).2.2.1 σ.1.1 x = []) (eb : bsF S (hIr S σ.1 r j key).2.1 σ.1.1 = bsF S σ.1.2.1 σ.1.1) (td : ∀ x, x < fCt S (S 13 t j).toNat → μ (msA A 10) (bsF S σ.1.2.1 σ.1.1 + x) = 0) (h21 : μ (msA A 21) it = (σ.1.1 : Int)) (i9 : it < 9000) (h0 : s0 ≤ bsF S σ.1.2.1 σ.1.1) (kp : kPn μ A (S 14 t j) it key) (h12 : S 11 t j = 3) (no : dPr S N T (n / 8) rec r t j dp pos dt ps key σ ≠ .inl ovr) :
    cXe S N T n A kS b ar L X (ab_run wc D 523 268 [(2, 1), (2, A), (3, 0), (3, 0), (0, pos), (0, dt), (0, ps), (3, 0), (3, 0), (0, dp), (3, 0), (3, 0), (3, 0), (3, 0), (0, x14), (0, it)] [(0, ((((if x14 < ps then pos + dt + x14 else pos) : Nat) : Int))), (0, 8), (2, 1)] μ) μ s0 κ (S 14 t j) key (dPr S N T (n / 8) rec r t j dp pos dt ps key σ) := sorry
theorem c_e384 {D : Nat} {x14 : Nat} {v : Int} {l : List Int} (hD : 8 ≤ D) (hm : isM A 2600 9000 12000) (cc : CXd S N T n A kS b ar L X κ 0 μ ((σ.1.1, σ.1.2.1, upV σ.1.2.2.1 r j (σ.1.2.2.1 r j ++ [y]), σ.1.2.2.2), σ.2)) (hb : hbX (κ + 1) σ) (hy : y.1 = v ∧ y.2.1 = l) (hr : r < σ.1.1) (ht : σ.1.2.1 r = t) (tO : (t : Int) < S 0 0 0 ∧ S 2 t 0 = 1) (hj : j < fCt S t) (m3 : S 11 t j = 3) (z9 : S 12 t j = 9 ∨ S 12 t j = 10) (hs : s = bsF S σ.1.2.1 r + j) (hit : itm μ A s (σ.1.2.2.1 r j).length = it) (hx : x14 = dPi S t j) (hpos : pos + dt + ps ≤ n / 8) (kd : kDp (S 14 t j) v l (σ.1.2.2.1 r j) = []) (h0 : s0 ≤ bsF S σ.1.2.1 σ.1.1) (kp : kPn μ A (S 14 t j) it (v, l)) {rec : Rx} :
    cXe S N T n A kS b ar L X (ab_run wc D 523 384 [(2, 1), (2, A), (3, 0), (2, (fdA b t j)), (3, 0), (3, 0), (3, 0), (3, 0), (3, 0), (3, 0), (3, 0), (3, 0), (3, 0), (3, 0), (3, 0), (0, it)] [(0, ((if x14 < ps then ((pos + dt + x14 : Nat) : Int) else -1))), (2, 1)] μ) μ s0 κ (S 14 t j) (v, l) (dPr S N T (n / 8) rec r t j dp pos dt ps (v, l) σ) := sorry
end Cx
end
section
section Cx
variable {μ μ' μ'' : ab_M} {d : Nat} {T : Nat → Int} {n : Nat} {S : SF} {N : NF} {A cr ci cb kS b ar L : Nat} {σ σ' : Sx} {h h' h'' : He} {X : Rsv} {r j p q it t s s0 s1 κ κ' u u' w at' data ps dp o pos dt : Nat} {Dp : Nat → Nat} {y : It} {key : Int × List Int}
theorem c_e176 {rec : Rx} {D x14 : Nat} {v x12 ln : Int} {l : List Int} (ih : PXd S N T n A kS b ar L rec) (ok : scOK S N) (hD : 5 * (12 - dp) + 12 ≤ D) (hm : isM A 2600 9000 12000) (cc : CXd S N T n A kS b ar L X (κ + 1) l.length μ σ) (i : hIn S σ.1 Dp) (hr : r < σ.1.1) (ht : σ.1.2.1 r = t) (hj : j < fCt S t) (m3 : S 11 t j = 3) (hd : Dp r = dp) (hdp : dp ≤ 12) (hs : s = bsF S σ.1.2.1 r + j) (hx : x14 = dPi S t j) (hpos : pos + dt + ps ≤ n / 8) (hl : kyA μ (S 14 t j) ar o ln l) (lo : μ 1 45 = (o : Int)) (ls : μ 1 46 = ln) (vk : (lng v ∧ byt l) ∧ (S 14 t j ≠ 9 → l = []) ∧ (S 14 t j = 9 → v = 0)) (kd : kDp (S 14 t j) v l (σ.1.2.2.1 r j) = []) (h0 : s0 ≤ bsF S σ.1.2.1 σ.1.1) (hv : S 12 t j ≤ 8 ∨ S 12 t j = 11 → x12 = kCut (S 12 t j) (bt T pos dt (mpS S t j) (kBits (S 12 t j)).toNat).toInt) (no : dPr S N T (n / 8) rec r t j dp pos dt ps (v, l) σ ≠ .inl ovr) :
    cXe S N T n A kS b ar L X (ab_run wc D 523 176 [(2, 1), (2, A), (0, s), (2, (fdA b t j)), (0, pos), (0, dt), (0, ps), (3, 0), (3, 0), (0, dp), (1, v), (3, 0), (1, x12), (3, 0), (0, x14), (3, 0)] [] μ) μ s0 κ (S 14 t j) (v, l) (dPr S N T (n / 8) rec r t j dp pos dt ps (v, l) σ) := sorry
theorem c_e131 {rec : Rx} {D x14 : Nat} {v x12 ln x7 : Int} {l : List Int} {last : Option (Int × List Int)} (ih : PXd S N T n A kS b ar L rec) (ok : scOK S N) (hD : 5 * (12 - dp) + 12 ≤ D) (hm : isM A 2600 9000 12000) (cc : CXd S N T n A kS b ar L X (κ + 1) l.length μ σ) (i : hIn S σ.1 Dp) (hr : r < σ.1.1) (ht : σ.1.2.1 r = t) (hj : j < fCt S t) (m3 : S 11 t j = 3) (hd : Dp r = dp) (hdp : dp ≤ 12) (hs : s = bsF S σ.1.2.1 r + j) (hx : x14 = dPi S t j) (hpos : pos + dt + ps ≤ n / 8) (hq : q < n / 8) (hl : kyA μ (S 14 t j) ar o ln l) (lo : μ 1 45 = (o : Int)) (ls : μ 1 46 = ln) (vk : (lng v ∧ byt l) ∧ (S 14 t j ≠ 9 → l = []) ∧ (S 14 t j = 9 → v = 0)) (h0 : s0 ≤ bsF S σ.1.2.1 σ.1.1) (hv : S 12 t j ≤ 8 ∨ S 12 t j = 11 → x12 = kCut (S 12 t j) (bt T pos dt (mpS S t j) (kBits (S 12 t j)).toNat).toInt) (pn : match last with
      | none => x7 < 0
      | some x => kPn μ A (S 14 t j) x7 x) {R : Flt ⊕ Sx} (eR : R = if 0 ≤ lsC (S 14 t j) last v l then .inl (10, 8 * (q : Int)) else if kDp (S 14 t j) v l (σ.1.2.2.1 r j) ≠ [] then .inl ovr else dPr S N T (n / 8) rec r t j dp pos dt ps (v, l) σ) (no : R ≠ .inl ovr) :
    cXe S N T n A kS b ar L X (ab_run wc D 523 131 [(2, 1), (2, A), (0, s), (2, (fdA b t j)), (0, pos), (0, dt), (0, ps), (0, x7), (0, q), (0, dp), (1, v), (3, 0), (1, x12), (3, 0), (0, x14), (3, 0)] [] μ) μ s0 κ (S 14 t j) (v, l) R := sorry
theorem mpS_lt : mpS S t j < 1000 := sorry
theorem kb_z {k : Int} (h1 : 0 ≤ k) (h2 : k ≤ 12) : kBits k = 0 ↔ ¬ (k ≤ 8 ∨ k = 11) := sorry
theorem c_entry {rec : Rx} {D : Nat} {x7 : Int} {last : Option (Int × List Int)} (ih : PXd S N T n A kS b ar L rec) (ok : scOK S N) (hD : 5 * (12 - dp) + 12 ≤ D) (hm : isM A 2600 9000 12000) (cc : CXd S N T n A kS b ar L X (κ + 1) 0 μ σ) (i : hIn S σ.1 Dp) (hr : r < σ.1.1) (ht : σ.1.2.1 r = t) (hj : j < fCt S t) (m3 : S 11 t j = 3) (hd : Dp r = dp) (hdp : dp ≤ 12) (hs : s = bsF S σ.1.2.1 r + j) (hpos : pos + dt + ps ≤ n / 8) (hq : q < n / 8) (h0 : s0 ≤ bsF S σ.1.2.1 σ.1.1) (pn : match last with
      | none => x7 < 0
      | some x => kPn μ A (S 14 t j) x7 x) :
    (∀ f, dKy S T (n / 8) t j pos dt ps σ.2.2.2.1 = .inl f → RfXd (ab_run wc D 523 0 [(2, 1), (2, A), (0, s), (2, (fdA b t j)), (0, pos), (0, dt), (0, ps), (0, x7), (0, q), (0, dp), (3, 0), (3, 0), (3, 0), (3, 0), (3, 0), (3, 0)] [] μ) A μ f) ∧ ∀ v l w, dKy S T (n / 8) t j pos dt ps σ.2.2.2.1 = .inr (v, l, w) → ∀ R : Flt ⊕ Sx, (R = if 0 ≤ lsC (S 14 t j) last v l then .inl (10, 8 * (q : Int)) else if kDp (S 14 t j) v l (σ.1.2.2.1 r j) ≠ [] then .inl ovr else dPr S N T (n / 8) rec r t j dp pos dt ps (v, l) (sxB σ w l.length)) → R ≠ .inl ovr → cXe S N T n A kS b ar L X (ab_run wc D 523 0 [(2, 1), (2, A), (0, s), (2, (fdA b t j)), (0, pos), (0, dt), (0, ps), (0, x7), (0, q), (0, dp), (3, 0), (3, 0), (3, 0), (3, 0), (3, 0), (3, 0)] [] μ) μ s0 κ (S 14 t j) (v, l) R := sorry
end Cx
end
section
section Cx
variable {μ μ' μ'' : ab_M} {d : Nat} {T : Nat → Int} {n : Nat} {S : SF} {N : NF} {A cr ci cb kS b ar L : Nat} {σ σ' : Sx} {h h' h'' : He} {X : Rsv} {r j p q it t s s0 s1 κ κ' u u' w at' data ps dp o pos dt : Nat} {Dp Dp' : Nat → Nat} {y : It} {key : Int × List Int}
theorem rxQ.bs {a : Nat} (x : rxQ S r σ σ' Dp Dp') (h : a ≤ σ.1.1) : bsF S σ'.1.2.1 a = bsF S σ.1.2.1 a := sorry
theorem rxQ.b0 (x : rxQ S r σ σ' Dp Dp') (h : s0 ≤ bsF S σ.1.2.1 σ.1.1) : s0 ≤ bsF S σ'.1.2.1 σ'.1.1 := sorry
theorem c_rw65 {rec : Rx} {D c0 : Nat} (ih : PXd S N T n A kS b ar L rec) (hk : RxK S rec) (ok : scOK S N) (hD : 5 * (12 - dp) + 13 ≤ D) (hm : isM A 2600 9000 12000) (hdp : dp ≤ 12) (hj : j < fCt S t) (m23 : S 11 t j = 3 ∨ S 11 t j = 2 ∧ S 12 t j = 12 ∧ dp + 1 ≤ 12) (hq : q < n / 8) (hc0 : c0 ≤ 400) (hdt : dt < 65536) (hps : ps < 65536) : ∀ (m pos : Nat) (last : Option (Int × List Int)) (x11 : Int) (k : Nat) (μ : ab_M) (σ : Sx) (Dp : Nat → Nat), k + m = c0 → pos + m * (dt + ps) ≤ n / 8 → CXd S N T n A kS b ar L X (κ + m) 0 μ σ → hIn S σ.1 Dp → r < σ.1.1 → σ.1.2.1 r = t → Dp r = dp → s = bsF S σ.1.2.1 r + j → s0 ≤ bsF S σ.1.2.1 σ.1.1 → (S 11 t j = 3 → match last with
      | none => x11 < 0
      | some x => kPn μ A (S 14 t j) x11 x) → dRw S N T (n / 8) rec r t j dp q dt ps m pos last σ ≠ .inl ovr →
    cXz S N T n A kS b ar L X (ab_run wc D 530 65 [(2, 1), (2, A), (0, s), (2, (fdA b t j)), (0, q), (0, dp), (0, ((if S 11 t j = 3 then 1 else 0))), (0, pos), (0, c0), (0, dt), (0, ps), (0, x11), (0, k), (3, 0)] [] μ) μ s0 κ (dRw S N T (n / 8) rec r t j dp q dt ps m pos last σ) := sorry
theorem c_recsI {rec : Rx} {D : Nat} (ih : PXd S N T n A kS b ar L rec) (hk : RxK S rec) (ok : scOK S N) (hD : 5 * (12 - dp) + 13 ≤ D) (hm : isM A 2600 9000 12000) (hdp : dp ≤ 12) (hj : j < fCt S t) (z : S 11 t j = 3 ∨ S 12 t j = 12) (m2 : 2 ≤ S 11 t j ∧ S 11 t j ≤ 3) (hq : q < n / 8) (cc : CXd S N T n A kS b ar L X κ 0 μ σ) (i : hIn S σ.1 Dp) (hr : r < σ.1.1) (ht : σ.1.2.1 r = t) (hd : Dp r = dp) (hs : s = bsF S σ.1.2.1 r + j) (h0 : s0 ≤ bsF S σ.1.2.1 σ.1.1) (no : dLs S N false T (n / 8) rec r t j dp q σ ≠ .inl ovr) :
    cXz S N T n A kS b ar L X (ab_run wc D 530 0 [(2, 1), (2, A), (0, s), (2, (fdA b t j)), (0, q), (0, dp), (3, 0), (3, 0), (3, 0), (3, 0), (3, 0), (3, 0), (3, 0), (3, 0)] [] μ) μ s0 κ (dLs S N false T (n / 8) rec r t j dp q σ) := sorry
theorem kS_nat {k : Int} (h1 : 0 ≤ k) (h2 : k ≤ 12) (h3 : k ≠ 12) : kSort k = (((kSort k).toNat : Nat) : Int) ∧ (kSort k).toNat ≠ 2 ∧ (kSort k).toNat ≠ 7 := sorry
theorem c_itemsI {rec : Rx} {D : Nat} (ih : PXd S N T n A kS b ar L rec) (hk : RxK S rec) (ok : scOK S N) (hD : 5 * (12 - dp) + 14 ≤ D) (hm : isM A 2600 9000 12000) (hdp : dp ≤ 12) (hj : j < fCt S t) (m2 : 2 ≤ S 11 t j ∧ S 11 t j ≤ 3) (hq : q < n / 8) (cc : CXd S N T n A kS b ar L X κ 0 μ σ) (i : hIn S σ.1 Dp) (hr : r < σ.1.1) (ht : σ.1.2.1 r = t) (hd : Dp r = dp) (hs : s = bsF S σ.1.2.1 r + j) (h0 : s0 ≤ bsF S σ.1.2.1 σ.1.1) (no : dLs S N false T (n / 8) rec r t j dp q σ ≠ .inl ovr) :
    cXz S N T n A kS b ar L X (ab_run wc D 525 0 [(2, 1), (2, A), (0, s), (2, (fdA b t j)), (0, q), (0, dp), (3, 0), (3, 0), (3, 0), (3, 0), (3, 0)] [] μ) μ s0 κ (dLs S N false T (n / 8) rec r t j dp q σ) := sorry
end Cx
end
section
section Cy
variable {S : SF} {N : NF} {h h' : He} {D D' : Nat → Nat} {r j c p n t at' data ps dp q : Nat} {T : Nat → Int} {v : Int} {l : List Int} {σ σ' : Sx} {key : Int × List Int} {g : Bool}
theorem hIr_ne (hr : r < h.1) (hh : (hIr S h r j key).2.2.1 r c ≠ []) : c = j ∨ h.2.2.1 r c ≠ [] := sorry
theorem hIs_ne (hh : (hIs S N h r j key v l).2.2.1 r c ≠ []) : c = j ∨ h.2.2.1 r c ≠ [] := sorry
theorem dIt_ne {b : Nat} {k : Int} : ∀ (q i : Nat) (σ σ' : Sx), dIt S N g T n r j b k q i σ = .inr σ' → σ'.1.2.2.1 r c ≠ [] → c = j ∨ σ.1.2.2.1 r c ≠ [] := sorry
theorem dPr_ne {rec : Rx} (hk : RxK S rec) (ok : scOK S N) {pos d : Nat} (e : dPr S N T n rec r t j dp pos d ps key σ = .inr σ') (i : hIn S σ.1 D) (hr : r < σ.1.1) (ht : σ.1.2.1 r = t) (hj : j < fCt S t) (hd : D r = dp) (kk : S 11 t j = 3 → (lng key.1 ∧ byt key.2) ∧ (S 14 t j ≠ 9 → key.2 = []) ∧ (S 14 t j = 9 → key.1 = 0)) (hh : σ'.1.2.2.1 r c ≠ []) : c = j ∨ σ.1.2.2.1 r c ≠ [] := sorry
theorem dRw_ne {rec : Rx} (hk : RxK S rec) (ok : scOK S N) (hT : ∀ k, k < 8 * n → 0 ≤ T k ∧ T k < 256) {d : Nat} (hj : j < fCt S t) (m23 : S 11 t j = 3 ∨ S 11 t j = 2 ∧ S 12 t j = 12 ∧ dp + 1 ≤ 12) : ∀ (m pos : Nat) (last : Option (Int × List Int)) (σ σ' : Sx) (D : Nat → Nat), dRw S N T n rec r t j dp q d ps m pos last σ = .inr σ' → hIn S σ.1 D → r < σ.1.1 → σ.1.2.1 r = t → D r = dp → σ'.1.2.2.1 r c ≠ [] → c = j ∨ σ.1.2.2.1 r c ≠ [] := sorry
theorem dPj_ne {rec : Rx} (hk : RxK S rec) (ok : scOK S N) (hT : ∀ k, k < 8 * n → 0 ≤ T k ∧ T k < 256) (e : dPj S N g T n rec r t dp at' data ps p j σ = .inr σ') (i : hIn S σ.1 D) (hr : r < σ.1.1) (ht : σ.1.2.1 r = t) (hj : j < fCt S t) (hd : D r = dp) (hh : σ'.1.2.2.1 r c ≠ []) : c = j ∨ σ.1.2.2.1 r c ≠ [] := sorry
end Cy
section Cx
variable {μ μ' μ'' : ab_M} {d : Nat} {T : Nat → Int} {n : Nat} {S : SF} {N : NF} {A cr ci cb kS b ar L : Nat} {σ σ' : Sx} {h h' h'' : He} {X : Rsv} {r j p q it t s s0 s1 κ κ' u u' w at' data ps dp o pos dt : Nat} {Dp Dp' : Nat → Nat} {y : It} {key : Int × List Int}
theorem c_164 {D w' : Nat} {x5 : Int} {l : List Int} {μ3 : ab_M} (hm : isM A 2600 9000 12000) (hj : j < fCt S t) (cc : CXd S N T n A kS b ar L X κ 0 μ σ) (tO : (t : Int) < S 0 0 0 ∧ S 2 t 0 = 1) (hr : r < σ.1.1) (ht : σ.1.2.1 r = t) (lt2 : S 11 t j < 2) (z9 : S 12 t j = 9 ∨ S 12 t j = 10) (h0 : s0 ≤ bsF S σ.1.2.1 σ.1.1) (v1 : (ab_run wc (D + 4) 521 0 [(2, 1), (0, x5), (2, (200000 + S 12 t j))] [] μ) = some ((3, 0), μ3)) (v2 : cXb μ3 T n l) (v6 : cXw μ3 ar L n T w') (v7 : μ3 1 33 = μ 1 33) (v8 : frXf μ μ3) (q2 : σ.2.2.2.1 ≤ w') (q3 : l.length + 8 * σ.2.2.2.1 ≤ 8 * w') :
    cXz S N T n A kS b ar L X (ab_run wc (D + 5) 526 164 [(2, 1), (2, A), (0, r), (0, j), (2, (fdA b t j)), (0, x5), (3, 0), (3, 0), (3, 0), (3, 0)] [] μ) μ s0 κ (.inr (dPut S N false r j 0 l (sxB σ w' l.length))) := sorry
theorem c_xIn {μ : ab_M} (hm : isM A 2600 9000 12000) (ok : scOK S N) (cc : CXd S N T n A kS b ar L X κ 0 μ σ) (i : hIn S σ.1 Dp) (hr : r < σ.1.1) (ht : σ.1.2.1 r = t) (hj : j < fCt S t) (lt2 : S 11 t j < 2) (z12 : S 12 t j = 12) (ve : σ.1.2.2.1 r j = []) (hn : σ.1.1 < 2600) {σ' : Sx} (e1 : σ'.1 = hRec S σ.1 r j (0, [])) (e2 : σ'.2.2.2 = σ.2.2.2) (hb : hbX κ σ') :
    ∃ μ2, (ab_run wc (d + 3) 496 0 [(2, 1), (2, A), (0, r), (0, j), (3, 0)] [] μ) = some ((0, (σ.1.1 : Int)), μ2) ∧ CXd S N T n A kS b ar L X κ 0 μ2 σ' ∧ frM A μ μ2 ∧ frKy A μ μ2 ∧ (hRec S σ.1 r j (0, [])).2.1 σ.1.1 = (S 13 t j).toNat ∧ bsF S (hRec S σ.1 r j (0, [])).2.1 σ.1.1 = bsF S σ.1.2.1 σ.1.1 ∧ ∀ x, x < fCt S (S 13 t j).toNat → μ2 (msA A 10) (bsF S σ.1.2.1 σ.1.1 + x) = 0 := sorry
theorem c_dPt {rec : Rx} {D : Nat} (ih : PXd S N T n A kS b ar L rec) (hk : RxK S rec) (ok : scOK S N) (hD : 5 * (12 - dp) + 15 ≤ D) (hm : isM A 2600 9000 12000) (hdp : dp ≤ 12) (hj : j < fCt S t) (hq : q < n / 8) (cc : CXd S N T n A kS b ar L X κ 0 μ σ) (i : hIn S σ.1 Dp) (hr : r < σ.1.1) (ht : σ.1.2.1 r = t) (hd : Dp r = dp) (ve : σ.1.2.2.1 r j = []) (nm : ¬ isNm S t j) (h0 : s0 ≤ bsF S σ.1.2.1 σ.1.1) (no : dPt S N false T (n / 8) rec r t j dp q σ ≠ .inl ovr) :
    cXz S N T n A kS b ar L X (ab_run wc D 526 0 [(2, 1), (2, A), (0, r), (0, j), (2, (fdA b t j)), (0, q), (0, dp), (3, 0), (3, 0), (3, 0)] [] μ) μ s0 κ (dPt S N false T (n / 8) rec r t j dp q σ) := sorry
theorem c_dNo {D z : Nat} (ok : scOK S N) (hD : 8 ≤ D) (hm : isM A 2600 9000 12000) (hdp : dp ≤ 12) (hj : j < fCt S t) (cc : CXd S N T n A kS b ar L X κ 0 μ σ) (i : hIn S σ.1 Dp) (hr : r < σ.1.1) (ht : σ.1.2.1 r = t) (ve : σ.1.2.2.1 r j = []) (nm : ¬ isNm S t j) (h0 : s0 ≤ bsF S σ.1.2.1 σ.1.1) (hz : μ 1 47 = 8 * (z : Int)) :
    cXz S N T n A kS b ar L X (ab_run wc D 526 0 [(2, 1), (2, A), (0, r), (0, j), (2, (fdA b t j)), (0, ((-1))), (0, dp), (3, 0), (3, 0), (3, 0)] [] μ) μ s0 κ (dNo S N false r t j dp z σ) := sorry
end Cx
end
section
section Cx
variable {μ μ' μ'' : ab_M} {d : Nat} {T : Nat → Int} {n : Nat} {S : SF} {N : NF} {A cr ci cb kS b ar L : Nat} {σ σ' : Sx} {h h' h'' : He} {X : Rsv} {r j p q it t s s0 s1 κ κ' u u' w at' data ps dp o pos dt bs : Nat} {Dp Dp' : Nat → Nat}
theorem c_skip {D : Nat} (ok : scOK S N) (hm : isM A 2600 9000 12000) (cc : CXd S N T n A kS b ar L X κ u μ σ) (hr : r < σ.1.1) (ht : σ.1.2.1 r = t) (tO : (t : Int) < S 0 0 0 ∧ S 2 t 0 = 1) (td : tdX μ A S T t at' data (bsF S σ.1.2.1 r) (S 4 t 0)) (hat : at' + data + ps ≤ n / 8) (hj : j < fCt S t) (no : ¬ dIs S T t at' data p j) :
    (ab_run wc (D + 5) 531 300 [(2, 1), (2, A), (0, r), (0, (at')), (0, data), (0, ps), (0, dp), (2, (tyA b t)), (0, p), (0, j), (3, 0), (3, 0)] [] μ) = (ab_run wc (D + 5) 531 300 [(2, 1), (2, A), (0, r), (0, (at')), (0, data), (0, ps), (0, dp), (2, (tyA b t)), (0, p), (0, (((j + 1 : Nat) : Int))), (3, 0), (3, 0)] [] μ) := sorry
theorem c_skips {D : Nat} (ok : scOK S N) (hm : isM A 2600 9000 12000) (cc : CXd S N T n A kS b ar L X κ u μ σ) (hr : r < σ.1.1) (ht : σ.1.2.1 r = t) (tO : (t : Int) < S 0 0 0 ∧ S 2 t 0 = 1) (td : tdX μ A S T t at' data (bsF S σ.1.2.1 r) (S 4 t 0)) (hat : at' + data + ps ≤ n / 8) : ∀ (m j : Nat), j + m ≤ fCt S t → (∀ c, j ≤ c → c < j + m → ¬ dIs S T t at' data p c) →
    (ab_run wc (D + 5) 531 300 [(2, 1), (2, A), (0, r), (0, (at')), (0, data), (0, ps), (0, dp), (2, (tyA b t)), (0, p), (0, j), (3, 0), (3, 0)] [] μ) = (ab_run wc (D + 5) 531 300 [(2, 1), (2, A), (0, r), (0, (at')), (0, data), (0, ps), (0, dp), (2, (tyA b t)), (0, p), (0, (((j + m : Nat) : Int))), (3, 0), (3, 0)] [] μ) := sorry
theorem c_300e {D : Nat} (ok : scOK S N) (cc : CXd S N T n A kS b ar L X κ u μ σ) (tO : (t : Int) < S 0 0 0 ∧ S 2 t 0 = 1) (hp : p < 100) :
    (ab_run wc (D + 5) 531 300 [(2, 1), (2, A), (0, r), (0, (at')), (0, data), (0, ps), (0, dp), (2, (tyA b t)), (0, p), (0, (((fCt S t : Nat) : Int))), (3, 0), (3, 0)] [] μ) = (ab_run wc (D + 5) 531 287 [(2, 1), (2, A), (0, r), (0, (at')), (0, data), (0, ps), (0, dp), (2, (tyA b t)), (0, (((p + 1 : Nat) : Int))), (3, 0), (3, 0), (3, 0)] [] μ) := sorry
theorem c_300j {D : Nat} (ok : scOK S N) (hm : isM A 2600 9000 12000) (cc : CXd S N T n A kS b ar L X κ u μ σ) (hr : r < σ.1.1) (ht : σ.1.2.1 r = t) (tO : (t : Int) < S 0 0 0 ∧ S 2 t 0 = 1) (td : tdX μ A S T t at' data (bsF S σ.1.2.1 r) (S 4 t 0)) (hat : at' + data + ps ≤ n / 8) (hp : p < 100) (hj : j < fCt S t) (is : dIs S T t at' data p j) :
    (ab_run wc (D + 5) 531 300 [(2, 1), (2, A), (0, r), (0, (at')), (0, data), (0, ps), (0, dp), (2, (tyA b t)), (0, p), (0, j), (3, 0), (3, 0)] [] μ) = ab_cal (ab_run wc (D + 4) 526 0 [(2, 1), (2, A), (0, r), (0, j), (2, (fdA b t j)), (0, ((if p < ps ∧ wdT T (at' + data + p) ≠ 0 then ((at' + data + p : Nat) : Int) else -1))), (0, dp), (3, 0), (3, 0), (3, 0)] [] (ab_up μ 1 47 (8 * (((if p < ps then at' + data + p else at') : Nat) : Int)))) 3 (fun r2 μ2 => some ((4, r2), μ2)) (fun _ μ2 => (ab_run wc (D + 5) 531 300 [(2, 1), (2, A), (0, r), (0, (at')), (0, data), (0, ps), (0, dp), (2, (tyA b t)), (0, p), (0, (((j + 1 : Nat) : Int))), (3, 0), (3, 0)] [] μ2)) := sorry
theorem c_287 {rec : Rx} {D : Nat} (ih : PXd S N T n A kS b ar L rec) (hk : RxK S rec) (la : laOK S) (nu : nuOK S) (ok : scOK S N) (hD : 5 * (12 - dp) + 16 ≤ D + 5) (hm : isM A 2600 9000 12000) (hdp : dp ≤ 12) (tO : (t : Int) < S 0 0 0 ∧ S 2 t 0 = 1) (hat : at' + data + ps ≤ n / 8) : ∀ (q p : Nat) (μ : ab_M) (σ : Sx) (Dp : Nat → Nat), p + q = (S 6 t 0).toNat → CXd S N T n A kS b ar L X κ 0 μ σ → hIn S σ.1 Dp → r < σ.1.1 → σ.1.2.1 r = t → Dp r = dp → bs = bsF S σ.1.2.1 r → tdX μ A S T t at' data bs (S 4 t 0) → dEm S T t at' data r p σ.1 → dPs S N false T (n / 8) rec r t dp at' data ps q p σ ≠ .inl ovr →
    cXz S N T n A kS b ar L X (ab_run wc (D + 5) 531 287 [(2, 1), (2, A), (0, r), (0, (at')), (0, data), (0, ps), (0, dp), (2, (tyA b t)), (0, p), (3, 0), (3, 0), (3, 0)] [] μ) μ bs κ (dPs S N false T (n / 8) rec r t dp at' data ps q p σ) := sorry
theorem CXd.cg (cc : CXd S N T n A kS b ar L X κ u μ σ) (e1 : σ'.1 = σ.1) (e2 : σ'.2.2.2 = σ.2.2.2) : CXd S N T n A kS b ar L X κ u μ σ' := sorry
theorem c_PXd (la : laOK S) (bn : bnOK S) (nu : nuOK S) (lo : loOK S) (ok : scOK S N) (hT : ∀ k, k < 8 * (n / 8) → 0 ≤ T k ∧ T k < 256) (hm : isM A 2600 9000 12000) : ∀ c, PXd S N T n A kS b ar L (dRec S N false T (n / 8) c) := sorry
end Cx
end
section
section Dc
variable {μ μ' μ'' : ab_M} {d : Nat} {S : SF} {N : NF} {s b t n ar L : Nat} {h : He} {T : Nat → Int} {D1 : Nat → Nat}
theorem frXd.rb {s0 : Nat} (f : frXd 1255 s0 μ μ') : frRb μ μ' := sorry
theorem hbX_0 {w t : Nat} : hbX 0 (hNew t, 1, 0, w, 0, 0) := sorry
theorem c_readBytes2 {D : Nat} (hD : 2620 ≤ D) (s4 : s < 4) (h10 : μ 10 s = b) (hb : isS b) (ok : scOK S N) (la : laOK S) (bn : bnOK S) (nu : nuOK S) (st : stOK S) (lo : loOK S) (hc : cSc μ b S N) (tO : (t : Int) < S 0 0 0 ∧ S 2 t 0 = 1) (ha : wc_ar ar = (4, L)) (nl : n ≤ L) (L5 : L < 100000) (n4 : n ≤ 4000) (hx : ∀ k, k < n → 0 ≤ T k ∧ T k < 256 ∧ μ ar k = sg (T k)) (na : ¬ inM 1255 ar ∧ ar ≠ 1 ∧ ar ≠ 2) (bf : 0 ≤ μ 1 45) :
    RBc S N (ab_run wc ((D + 1)) 488 0 [(2, 1), (2, ar), (0, 0), (0, n), (0, s), (0, t), (0, 2)] [] μ) μ s b (lgR S (dDc S N T n t)) := sorry
end Dc
section Dd
variable {μ μ' : ab_M} {s m rw k : Nat} {S : Nat → SF} {N : Nat → NF} {bs : Nat → Nat} {th : Nat → Int} {tp : List Int} {rows : Nat → List Int}
def slOK (S : SF) : Prop := laOK S ∧ bnOK S ∧ nuOK S ∧ stOK S ∧ loOK S
theorem c_decode2 {D : Nat} (hD : 6000 ≤ D) (s4 : s < 4) (r8 : rw < 8) (m12 : m < 12) (cs : cSs μ bs th S N) (so : th s = 1 → slOK (S s)) (c : cR μ tp rows) (hb : ∀ x ∈ rows rw, 0 ≤ x ∧ x < 256) (bf : 0 ≤ μ 1 45) :
    R0 (ab_run wc ((D + 2)) 388 0 [(2, 1), (0, s), (0, k), (0, 2), (0, rw), (0, m), (3, 0)] [] μ) (fun v μ' => if th s = 0 then v = -2 ∧ μ' = μ else if ¬ ((k : Int) < S s 0 0 0 ∧ S s 2 k 0 = 1) then v = -1 ∧ μ' = μ else frDc m μ μ' ∧ match lgR (S s) (dDc (S s) (N s) (tpT (rows rw)) (rows rw).length k) with
      | .inl f => v = w32 (-10 - f.1) ∧ μ' 1 3 = f.2 ∧ ∀ a, inM (6314 + 27 * m) a → ∀ i, μ' a i = μ a i
      | .inr h => v = vlS (S s) h ∧ μ' (6314 + 27 * m) 0 = 1 ∧ μ' 1 3 = -2 ∧ ∃ h', mC (S s) (N s) μ' m s (bs s) h' ∧ hEq (S s) h h' ∧ mE (S s) h') := sorry
end Dd
end
section
section Tg0
variable {μ μ' μ'' : ab_M} {d : Nat} {S : SF} {N : NF} {m s : Nat} {h h' : He} {al : Nat → Bool} {ε : Nat → Nat} {uM pM r j e x : Nat} {X : RsvT} {F : Nat → Prop} {v : Int} {l : List Int} {key : Int × List Int}
def upS (S : SF) (x : Nat) : SF := fun i k j => if i = 99 then (x : Int) else S i k j
theorem dfB_u {t : Nat} : dfB (upS S x) N t j v l = dfB S N t j v l := sorry
theorem lvO_u {t : Nat} {V : Nat → Nat → List It} : lvO (upS S x) t r j V = lvO S t r j V := sorry
theorem hSet_u : hSet (upS S x) N h r j key v l = hSet S N h r j key v l := sorry
theorem hRec_u : hRec (upS S x) h r j key = hRec S h r j key := sorry
theorem hIr_u : hIr (upS S x) h r j key = hIr S h r j key := sorry
theorem hIs_u : hIs (upS S x) N h r j key v l = hIs S N h r j key v l := sorry
theorem TS_u (t : TS μ s (upS S x) N) : TS μ s S N := sorry
theorem TS_v (t : TS μ s S N) : TS μ s (upS S x) N := sorry
theorem tEs_u {x' t : Nat} : ∀ (c : List Nat) (W : List We), tEs (upS S x) μ m s pM ε t c W → tEs (upS S x') μ m s pM ε t c W := sorry
theorem TMo_u {x' : Nat} (t : TMo X (upS S x) μ m s h.1 al h.2.1 h.2.2.1 h.2.2.2 ε uM pM) : TMo X (upS S x') μ m s h.1 al h.2.1 h.2.2.1 h.2.2.2 ε uM pM := sorry
theorem noOr_u {x' : Nat} (t : noOr (upS S x) h.1 al h.2.1 h.2.2.1 F) : noOr (upS S x') h.1 al h.2.1 h.2.2.1 F := sorry
theorem toV_u {U : Nat → List Un} {n : Nat} {ty : Nat → Nat} {V : Nat → Nat → List It} : toV (upS S x) n al ty V U = toV S n al ty V U := sorry
theorem hIn_u {D : Nat → Nat} (i : hIn S h D) : hIn (upS S x) h D := sorry
theorem TD.mv7 {pM' : Nat} (x : TD X F S N m s μ h al ε uM pM) (f : ∀ a, 7863 ≤ a → a ≤ 7878 → a ≠ 7868 → ∀ i, μ' a i = μ a i) (fs : ∀ a, 7762 ≤ a → a ≤ 7857 → ∀ i, μ' a i = μ a i) (fp : ∀ i, 9000 * m ≤ i → i < 9000 * m + pM → μ' 7879 i = μ 7879 i) (hp : μ' 7868 m = pM') (h1 : pM ≤ pM') (h2 : pM' ≤ 9000) : TD X F S N m s μ' h al ε uM pM' := sorry
theorem TD.bump (y : TD X F (upS S x) N 12 s μ h al ε uM pM) (hx : x < 100000) : TD X F (upS S (x + 1)) N 12 s (ab_up μ 7865 12 (μ 7865 12 + 1)) h al ε uM pM := sorry
end Tg0
end
section
section Tx
variable {μ μ' μ'' : ab_M} {d : Nat} {S : SF} {N : NF} {m s n : Nat} {h h' : He} {ε ε' : Nat → Nat} {uM pM r j e p q lv lv' t w : Nat} {X : RsvT} {F : Nat → Prop} {D : Nat → Nat} {v k : Int} {l : List Int} {T : Nat → Int} {σ σ' : Sx}
def frTx (lv : Nat) (μ μ' : ab_M) : Prop := ∀ a i, ¬ mine 12 a i → (7912 ≤ a → a ≤ 7920 → i < lv) → a ≠ 7860 → (a ≠ 7756 ∨ i ≠ 17 ∧ i ≠ 18 ∧ i ≠ 130 ∧ i ≠ 175 ∧ (i < 190 ∨ 192 < i) ∧ i ≠ 202 ∧ (i < 205 ∨ 210 < i) ∧ (i < 216 ∨ 232 < i)) → μ' a i = μ a i
theorem frTx.refl : frTx lv μ μ := sorry
theorem frTx.trans (f : frTx lv μ μ') (g : frTx lv μ' μ'') : frTx lv μ μ'' := sorry
theorem frTx.le (f : frTx lv μ μ') (l : lv' ≤ lv) : frTx lv' μ μ' := sorry
theorem frH.tx (f : frH 12 μ μ') : frTx lv μ μ' := sorry
theorem frXa.tx (f : frXa μ μ') : frTx lv μ μ' := sorry
theorem frXb.tx (f : frXb pM μ μ') : frTx lv μ μ' := sorry
theorem frTx.rt (f : frTx lv μ μ') : frRt μ μ' := sorry
theorem FtX.rt {run : ab_R} {f : Flt} (g : FtX run μ f) : FtR run μ f := sorry
theorem FtB.rt {run : ab_R} {f : Flt} (g : FtB pM run μ f) : FtR run μ f := sorry
def TXs (X : RsvT) (F : Nat → Prop) (S : SF) (N : NF) (T : Nat → Int) (n s : Nat) (μ : ab_M) (σ : Sx) (ε : Nat → Nat) : Prop := tXw μ n T σ.2.2.2.1 ∧ μ 7756 202 = (σ.2.2.2.2.1 : Int) ∧ ∃ pM, TD X F (upS S σ.2.2.1) N 12 s μ σ.1 tr1 ε σ.2.1 pM ∧ pM ≤ σ.2.2.2.2.2
theorem TXs.mv (x : TXs X F S N T n s μ σ ε) (hr : r < σ.1.1) (f : ∀ a i, (a < 7912 ∨ 7920 < a) → a ≠ 7860 → (a ≠ 7756 ∨ i ≠ 17 ∧ i ≠ 18 ∧ i ≠ 130 ∧ i ≠ 175 ∧ (i < 190 ∨ 192 < i) ∧ i ≠ 202 ∧ (i < 205 ∨ 210 < i) ∧ (i < 216 ∨ 232 < i)) → μ' a i = μ a i) (cw : tXw μ' n T σ'.2.2.2.1) (hl : μ' 7756 202 = (σ'.2.2.2.2.1 : Int)) (e1 : σ'.1 = σ.1) (e2 : σ'.2.1 = σ.2.1) (e3 : σ'.2.2.1 = σ.2.2.1) (hb : σ.2.2.2.2.2 ≤ σ'.2.2.2.2.2) : TXs X F S N T n s μ' σ' ε := sorry
theorem tXw.tx (c : tXw μ n T w) (f : ∀ a i, (a = 7907 ∨ a = 7756 ∧ (i = 215 ∨ i = 216 ∨ i = 17)) → μ' a i = μ a i) : tXw μ' n T w := sorry
theorem tXw.fh (c : tXw μ n T w) (f : frH 12 μ μ') : tXw μ' n T w := sorry
theorem tw_putSlot {fi : Nat} (c : tXw μ n T σ.2.2.2.1) (hi : μ 7756 202 = (σ.2.2.2.2.1 : Int)) (td : TD X F (upS S σ.2.2.1) N 12 s μ σ.1 tr1 ε σ.2.1 pM) (hp : pM ≤ σ.2.2.2.2.2) (hr : r < σ.1.1) (hj : j < fCt S (σ.1.2.1 r)) (lt2 : S 11 (σ.1.2.1 r) j < 2) (h12 : S 12 (σ.1.2.1 r) j ≠ 12) (hx : σ.2.2.1 < 100000) (hl : fi + l.length ≤ pM) (hb : tBy μ 7879 (9000 * 12 + fi) l) (ve : σ.1.2.2.1 r j = []) (hv : onE S (σ.1.2.1 r) r j σ.1) :
    ∃ μ', (ab_run wt (d + 7) 238 0 [(2, 7756), (0, (ε r)), (0, (fX s (σ.1.2.1 r) j)), (1, v), (3, 0), (0, fi), (0, (l.length)), (3, 0)] [] μ) = some ((3, 0), μ') ∧ TXs X F S N T n s μ' (dPut S N true r j v l σ) ε ∧ frH 12 μ μ' ∧ frKu μ μ' := sorry
end Tx
end
section
section Tx
variable {μ μ' μ'' : ab_M} {d : Nat} {S : SF} {N : NF} {m s n : Nat} {h h' : He} {ε ε' : Nat → Nat} {uM pM r j e p q lv lv' t w at' data ps o : Nat} {X : RsvT} {F : Nat → Prop} {D : Nat → Nat} {v k last : Int} {l : List Int} {T : Nat → Int} {σ σ' : Sx}
def nbI (S : SF) (t s : Nat) (last : Int) (k : Nat) (x : Int) : Prop := (x = -2 ∧ ∀ c, c < k → S 10 t c ≤ last) ∨ ∃ b, b < k ∧ x = ((fX s t b : Nat) : Int) ∧ last < S 10 t b ∧ ∀ c, c < k → last < S 10 t c → S 10 t b ≤ S 10 t c
theorem ty_w (ts : TS μ s S N) (t1 : (t : Int) < S 0 0 0) (t2 : S 2 t 0 = 1) : μ 7769 (30 * s + t) = S 3 t 0 ∧ (fCt S t : Int) = S 3 t 0 ∧ fCt S t ≤ 24 ∧ 30 * s + t < 150 ∧ w32 (24 * ((30 * s + t : Nat) : Int)) = ((fX s t 0 : Nat) : Int) ∧ w32 (((fX s t 0 : Nat) : Int) + S 3 t 0) = ((fX s t (fCt S t) : Nat) : Int) ∧ ∀ k, k ≤ 24 → w32 (((fX s t k : Nat) : Int) + 1) = ((fX s t (k + 1) : Nat) : Int) := sorry
theorem tw_nb9 (ts : TS μ s S N) (t1 : (t : Int) < S 0 0 0) (t2 : S 2 t 0 = 1) : ∀ (m k : Nat) (x : Int), k + m = fCt S t → nbI S t s last k x → ∃ y, (ab_run wt (d + 1) 175 9 [(2, 7756), (0, (((30 * s + t : Nat) : Int))), (0, last), (0, x), (0, (((fX s t k : Nat) : Int)))] [] μ) = some ((0, y), μ) ∧ nbI S t s last (fCt S t) y := sorry
theorem tw_next {i : Nat} (ts : TS μ s S N) (bn : bnOK S) (t1 : (t : Int) < S 0 0 0) (t2 : S 2 t 0 = 1) (hi : i ≤ fCt S t) (hl : last = if i = 0 then 0 else S 10 t (S 20 t (i - 1)).toNat) :
    (ab_run wt (d + 1) 175 0 [(2, 7756), (0, (((30 * s + t : Nat) : Int))), (0, last), (3, 0), (3, 0)] [] μ) = some ((0, if i = fCt S t then -2 else ((fX s t (S 20 t i).toNat : Nat) : Int)), μ) := sorry
theorem bt_1 {a b c : Nat} : bt T a b c 1 = 0 ∨ (bt T a b c 1).toInt = 1 := sorry
theorem tw_readPlace (la : laOK S) (x : TXs X F S N T n s μ σ ε) (hr : r < σ.1.1) (ht : σ.1.2.1 r = t) (hj : j < fCt S t) (hat : at' + data + ps ≤ n) (hx : σ.2.2.1 < 100000) (fr : ∀ v, dVl S T t at' data j = some v → σ.1.2.2.1 r j = [] ∧ onE S t r j σ.1) :
    ∃ μ', (ab_run wt (d + 8) 261 0 [(2, 7756), (0, 12), (0, (ε r)), (0, (((30 * s + t : Nat) : Int))), (0, (fX s t j)), (0, (at')), (0, data), (3, 0), (3, 0), (3, 0)] [] μ) = some ((3, 0), μ') ∧ TXs X F S N T n s μ' (match dVl S T t at' data j with
      | none => σ
      | some v => dPut S N true r j v [] σ) ε ∧ frH 12 μ μ' ∧ frKu μ μ' := sorry
end Tx
end
section
section Tx
variable {μ μ' μ'' : ab_M} {d : Nat} {S : SF} {N : NF} {m s n : Nat} {h h' : He} {ε ε' : Nat → Nat} {uM pM r j e p q lv lv' t w at' data ps o : Nat} {X : RsvT} {F : Nat → Prop} {D : Nat → Nat} {v k last : Int} {l : List Int} {T : Nat → Int} {σ σ' : Sx}
theorem tw_rd57 {x2 tag : Int} (ts : TS μ s S N) (t1 : (t : Int) < S 0 0 0) (t2 : S 2 t 0 = 1) (ho : o < 100) : ∀ (m k x8 : Nat), k + m = fCt S t → x8 ≤ k → (ab_run wt (d + 9) 249 57 [(2, 7756), (0, 12), (0, x2), (0, (at')), (0, data), (0, (((30 * s + t : Nat) : Int))), (0, o), (0, tag), (0, x8), (0, (((fX s t k : Nat) : Int)))] [] μ) = if ((x8 + onN S t o m k : Nat) : Int) < tag then (ab_cal (ab_run wt (d + 8) 340 0 [(2, 7756), (0, 8), (0, (w32 (8 * (at' : Int))))] [] μ) 0 (fun r1 μ1 => some ((4, r1), μ1)) (fun r1 μ1 => (if r1 = 0 ∨ r1 = 1 then some ((0, r1), μ1) else none))) else (ab_run wt (d + 9) 249 10 [(2, 7756), (0, 12), (0, x2), (0, (at')), (0, data), (0, (((30 * s + t : Nat) : Int))), (0, (((o + 1 : Nat) : Int))), (3, 0), (3, 0), (3, 0)] [] μ) := sorry
theorem tw_rd10 {x2 : Int} (lo : loOK S) (bn : bnOK S) (ts : TS μ s S N) (t1 : (t : Int) < S 0 0 0) (t2 : S 2 t 0 = 1) (c : tXw μ n T w) (hat : at' + data + ps ≤ n) : ∀ (m o : Nat), (o : Int) + m = S 4 t 0 →
    ((∃ o' : Nat, o ≤ o' ∧ (o' : Int) < S 4 t 0 ∧ onN S t o' (fCt S t) 0 < (bt T at' data (S 30 t o').toNat 16).toNat) → FtX (ab_run wt (d + 9) 249 10 [(2, 7756), (0, 12), (0, x2), (0, (at')), (0, data), (0, (((30 * s + t : Nat) : Int))), (0, o), (3, 0), (3, 0), (3, 0)] [] μ) μ (8, 8 * (at' : Int))) ∧
    (¬ (∃ o' : Nat, o ≤ o' ∧ (o' : Int) < S 4 t 0 ∧ onN S t o' (fCt S t) 0 < (bt T at' data (S 30 t o').toNat 16).toNat) → (ab_run wt (d + 9) 249 10 [(2, 7756), (0, 12), (0, x2), (0, (at')), (0, data), (0, (((30 * s + t : Nat) : Int))), (0, o), (3, 0), (3, 0), (3, 0)] [] μ) = (ab_run wt (d + 9) 249 136 [(2, 7756), (0, 12), (0, x2), (0, (at')), (0, data), (0, (((30 * s + t : Nat) : Int))), (0, ((if 0 = fCt S t then -2 else ((fX s t (S 20 t 0).toNat : Nat) : Int)))), (3, 0), (3, 0), (3, 0)] [] μ)) := sorry
theorem tw_rd136 (la : laOK S) (bn : bnOK S) (nu : nuOK S) (ok : scOK S N) (hat : at' + data + ps ≤ n) (t1 : (t : Int) < S 0 0 0) (t2 : S 2 t 0 = 1) : ∀ (q i : Nat) (μ : ab_M) (σ : Sx), i + q = fCt S t → TXs X F S N T n s μ σ ε → hIn S σ.1 D → r < σ.1.1 → σ.1.2.1 r = t → dE1 S T t at' data r i σ.1 → σ.2.2.1 + q < 100000 →
    ∃ μ', (ab_run wt (d + 9) 249 136 [(2, 7756), (0, 12), (0, (ε r)), (0, (at')), (0, data), (0, (((30 * s + t : Nat) : Int))), (0, ((if i = fCt S t then -2 else ((fX s t (S 20 t i).toNat : Nat) : Int)))), (3, 0), (3, 0), (3, 0)] [] μ) = some ((0, 1), μ') ∧ TXs X F S N T n s μ' (dNs S N true T r t at' data q i σ) ε ∧ frH 12 μ μ' ∧ frKu μ μ' := sorry
theorem tw_readData (la : laOK S) (bn : bnOK S) (nu : nuOK S) (lo : loOK S) (ok : scOK S N) (hat : at' + data + ps ≤ n) (x : TXs X F S N T n s μ σ ε) (i : hIn S σ.1 D) (hr : r < σ.1.1) (ht : σ.1.2.1 r = t) (ve : ∀ j, σ.1.2.2.1 r j = []) (hx : σ.2.2.1 ≤ 50000) :
    (tgBad S T t at' data → FtX (ab_run wt (d + 9) 249 0 [(2, 7756), (0, 12), (0, (ε r)), (0, (at')), (0, data), (3, 0), (3, 0), (3, 0), (3, 0), (3, 0)] [] μ) μ (8, 8 * (at' : Int))) ∧ (¬ tgBad S T t at' data → ∃ μ', (ab_run wt (d + 9) 249 0 [(2, 7756), (0, 12), (0, (ε r)), (0, (at')), (0, data), (3, 0), (3, 0), (3, 0), (3, 0), (3, 0)] [] μ) = some ((0, 1), μ') ∧ TXs X F S N T n s μ' (dNs S N true T r t at' data (fCt S t) 0 σ) ε ∧ frH 12 μ μ' ∧ frKu μ μ') := sorry
end Tx
end
section
section Tx
variable {μ μ' μ'' : ab_M} {d : Nat} {S : SF} {N : NF} {m s n : Nat} {h h' : He} {ε ε' : Nat → Nat} {uM pM r j e p q lv lv' t w at' data ps o dp nr nr' : Nat} {X : RsvT} {F : Nat → Prop} {D : Nat → Nat} {v k last : Int} {l : List Int} {T : Nat → Int} {σ σ' : Sx}
noncomputable abbrev lpX (d : Nat) (run : ab_R) : ab_R := ab_cal run 0 (fun r3 μ3 => some ((4, r3), μ3)) (fun r3 μ3 => if r3 = 0 then some ((0, 0), μ3) else (ab_run wt (d + 13) 266 182 [(2, 7756), (3, 0), (0, 12), (3, 0), (3, 0), (3, 0), (3, 0)] [] μ3))
theorem FtR.lx {run : ab_R} {f : Flt} (h : FtR run μ f) : FtR (lpX d run) μ f := sorry
theorem lpX_1 : lpX d (some ((0, 1), μ)) = (ab_run wt (d + 13) 266 182 [(2, 7756), (3, 0), (0, 12), (3, 0), (3, 0), (3, 0), (3, 0)] [] μ) := sorry
theorem lpX_w {run : ab_R} (h : ∀ r μ1, run = some ((0, r), μ1) → r = 0 ∨ r = 1) (h2 : ∃ r μ1, run = some ((0, r), μ1)) : lpX d (wrL run) = lpX d run := sorry
def tXz (d : Nat) (S : SF) (N : NF) (T : Nat → Int) (n s : Nat) (X : RsvT) (F : Nat → Prop) (run : ab_R) (μ : ab_M) (lv dp nr : Nat) (ε : Nat → Nat) : Flt ⊕ Sx → Prop
  | .inl f => FtR run μ f
  | .inr σ' => ∃ μ' ε', run = (ab_run wt (d + 13) 266 182 [(2, 7756), (3, 0), (0, 12), (3, 0), (3, 0), (3, 0), (3, 0)] [] μ') ∧ TXs X F S N T n s μ' σ' ε' ∧ μ' 7756 175 = (lv : Int) ∧ μ' 7756 190 = (dp : Int) ∧ (∀ x, x < nr → ε' x = ε x) ∧ frTx lv μ μ' ∧ frKu μ μ'
theorem tXz.to {run run' : ab_R} {R : Flt ⊕ Sx} (x : tXz d S N T n s X F run μ' lv dp nr' ε' R) (f : frTx lv μ μ') (fk : frKu μ μ') (e : run' = run) (hn : nr ≤ nr') (he : ∀ x, x < nr → ε' x = ε x) : tXz d S N T n s X F run' μ lv dp nr ε R := sorry
theorem tXz.ft {run run' : ab_R} {f : Flt} (x : FtR run μ' f) (q : frRt μ μ') (e : run' = run) : tXz d S N T n s X F run' μ lv dp nr ε (.inl f) := sorry
def TXr (d : Nat) (S : SF) (N : NF) (T : Nat → Int) (n s c : Nat) (rec : Rx) : Prop := ∀ (δ : Nat) (X : RsvT) (F : Nat → Prop) (μ : ab_M) (r dp at' data ps : Nat) (p0 : Int) (σ : Sx) (ε : Nat → Nat) (lv : Nat) (D : Nat → Nat) (κ1 κ φ : Nat), TXs X F S N T n s μ σ ε → hIn S σ.1 D → r < σ.1.1 → D r = dp → dp + c = 13 → at' + data + ps ≤ n → (∀ j, σ.1.2.2.1 r j = []) → ivX true (κ1 + (d1 data + ps)) κ φ 1 σ → lv + 2 ≤ 2 * dp → μ 7756 175 = (lv : Int) → μ 7756 190 = ((dp - 1 : Nat) : Int) →
  tXz d S N T n s X F (lpX d (ab_run wt ((d + 10 + δ)) 9 0 [(2, 7756), (0, 12), (0, (ε r)), (0, (at')), (0, data), (0, ps), (0, p0)] [] μ)) μ lv (dp - 1) σ.1.1 ε (rec r (σ.1.2.1 r) dp at' data ps σ)
def rFx (μ : ab_M) (lv : Nat) (x : Int) (at' data ps p : Nat) : Prop := μ 7912 lv = x ∧ μ 7918 lv = (at' : Int) ∧ μ 7913 lv = ((at' + data : Nat) : Int) ∧ μ 7914 lv = (ps : Int) ∧ μ 7915 lv = (p : Int) ∧ μ 7916 lv = -2
def osM (μ : ab_M) (lv : Nat) (x : Int) (at' data ps dp : Nat) : ab_M := ab_up (ab_up (ab_up (ab_up (ab_up (ab_up (ab_up (ab_up μ 7912 lv x) 7918 lv (at' : Int)) 7913 lv ((at' + data : Nat) : Int)) 7914 lv (ps : Int)) 7915 lv 0) 7916 lv (-2)) 7756 175 ((lv + 1 : Nat) : Int)) 7756 190 (dp : Int)
theorem osM_at {x : Int} : rFx (osM μ lv x at' data ps dp) lv x at' data ps 0 ∧ osM μ lv x at' data ps dp 7756 175 = ((lv + 1 : Nat) : Int) ∧ osM μ lv x at' data ps dp 7756 190 = (dp : Int) ∧ ∀ a i, (a < 7912 ∨ 7920 < a ∨ i ≠ lv) → (a ≠ 7756 ∨ i ≠ 175 ∧ i ≠ 190) → osM μ lv x at' data ps dp a i = μ a i := sorry
theorem tw_openSlots {x : Int} (hg : μ 7756 175 = (lv : Int)) (l6 : lv < 60) (hd : μ 7756 190 = ((dp - 1 : Nat) : Int)) (d1 : 1 ≤ dp ∧ dp ≤ 12) (a5 : at' + data < 2000) : (ab_run wt (d + 1) 188 0 [(2, 7756), (0, x), (0, (at')), (0, data), (0, ps)] [] μ) = some ((3, 0), osM μ lv x at' data ps dp) := sorry
theorem tw_xBegin {δ : Nat} {p0 : Int} (la : laOK S) (bn : bnOK S) (nu : nuOK S) (lo : loOK S) (ok : scOK S N) (hat : at' + data + ps ≤ n) (x : TXs X F S N T n s μ σ ε) (i : hIn S σ.1 D) (hr : r < σ.1.1) (ht : σ.1.2.1 r = t) (ve : ∀ j, σ.1.2.2.1 r j = []) (hx : σ.2.2.1 ≤ 50000) (hg : μ 7756 175 = (lv : Int)) (l6 : lv < 60) (hd : μ 7756 190 = ((dp - 1 : Nat) : Int)) (dd : 1 ≤ dp ∧ dp ≤ 12) :
    (tgBad S T t at' data → FtR (ab_run wt ((d + 10 + δ)) 9 0 [(2, 7756), (0, 12), (0, (ε r)), (0, (at')), (0, data), (0, ps), (0, p0)] [] μ) μ (8, 8 * (at' : Int))) ∧ (¬ tgBad S T t at' data → ∃ μ', (ab_run wt ((d + 10 + δ)) 9 0 [(2, 7756), (0, 12), (0, (ε r)), (0, (at')), (0, data), (0, ps), (0, p0)] [] μ) = some ((0, 1), μ') ∧ TXs X F S N T n s μ' (dNs S N true T r t at' data (fCt S t) 0 σ) ε ∧ rFx μ' lv (ε r) at' data ps 0 ∧ μ' 7756 175 = ((lv + 1 : Nat) : Int) ∧ μ' 7756 190 = (dp : Int) ∧ frTx lv μ μ' ∧ frKu μ μ') := sorry
end Tx
end
section
section Tx
variable {μ μ' μ'' : ab_M} {d : Nat} {S : SF} {N : NF} {m s n : Nat} {h h' : He} {ε ε' : Nat → Nat} {uM pM r j e p q lv lv' t w at' data ps o dp nr nr' z : Nat} {X : RsvT} {F : Nat → Prop} {D : Nat → Nat} {v k last : Int} {l : List Int} {T : Nat → Int} {σ σ' : Sx}
abbrev dIp (S : SF) (T : Nat → Int) (t at' data p j : Nat) : Prop := S 17 t j = (p : Int) ∧ (0 ≤ S 15 t j → chs S T t at' data j)
theorem dIp_uq {c : Nat} (la : laOK S) (nu : nuOK S) (t1 : (t : Int) < S 0 0 0) (t2 : S 2 t 0 = 1) (hj : j < fCt S t) (hc : c < fCt S t) (a : dIp S T t at' data p j) (b : dIp S T t at' data p c) : j = c := sorry
theorem tw_pfS {x5 : Int} {k : Nat} (la : laOK S) (ts : TS μ s S N) (t1 : (t : Int) < S 0 0 0) (t2 : S 2 t 0 = 1) (c : tXw μ n T w) (hat : at' + data + ps ≤ n) (hk : k < fCt S t) :
    (dIp S T t at' data p k → (ab_run wt (d + 2) 214 10 [(2, 7756), (0, (((30 * s + t : Nat) : Int))), (0, p), (0, (at')), (0, data), (0, x5), (0, (((fX s t k : Nat) : Int)))] [] μ) = (ab_run wt (d + 2) 214 10 [(2, 7756), (0, (((30 * s + t : Nat) : Int))), (0, p), (0, (at')), (0, data), (0, (((fX s t k : Nat) : Int))), (0, (((fX s t (k + 1) : Nat) : Int)))] [] μ)) ∧ (¬ dIp S T t at' data p k → (ab_run wt (d + 2) 214 10 [(2, 7756), (0, (((30 * s + t : Nat) : Int))), (0, p), (0, (at')), (0, data), (0, x5), (0, (((fX s t k : Nat) : Int)))] [] μ) = (ab_run wt (d + 2) 214 10 [(2, 7756), (0, (((30 * s + t : Nat) : Int))), (0, p), (0, (at')), (0, data), (0, x5), (0, (((fX s t (k + 1) : Nat) : Int)))] [] μ)) := sorry
theorem tw_pfN {x5 : Int} (la : laOK S) (ts : TS μ s S N) (t1 : (t : Int) < S 0 0 0) (t2 : S 2 t 0 = 1) (c : tXw μ n T w) (hat : at' + data + ps ≤ n) : ∀ (m k : Nat), k + m = fCt S t → (∀ j, k ≤ j → j < fCt S t → ¬ dIp S T t at' data p j) → (ab_run wt (d + 2) 214 10 [(2, 7756), (0, (((30 * s + t : Nat) : Int))), (0, p), (0, (at')), (0, data), (0, x5), (0, (((fX s t k : Nat) : Int)))] [] μ) = some ((0, x5), μ) := sorry
theorem tw_pfJ {x5 : Int} (la : laOK S) (nu : nuOK S) (ts : TS μ s S N) (t1 : (t : Int) < S 0 0 0) (t2 : S 2 t 0 = 1) (c : tXw μ n T w) (hat : at' + data + ps ≤ n) (hj : j < fCt S t) (is : dIp S T t at' data p j) : ∀ (m k : Nat), k + m = j → (ab_run wt (d + 2) 214 10 [(2, 7756), (0, (((30 * s + t : Nat) : Int))), (0, p), (0, (at')), (0, data), (0, x5), (0, (((fX s t k : Nat) : Int)))] [] μ) = some ((0, ((fX s t j : Nat) : Int)), μ) := sorry
theorem tw_pointerField (la : laOK S) (nu : nuOK S) (ts : TS μ s S N) (t1 : (t : Int) < S 0 0 0) (t2 : S 2 t 0 = 1) (c : tXw μ n T w) (hat : at' + data + ps ≤ n) : ((∀ j, j < fCt S t → ¬ dIp S T t at' data p j) ∧ (ab_run wt (d + 2) 214 0 [(2, 7756), (0, (((30 * s + t : Nat) : Int))), (0, p), (0, (at')), (0, data), (3, 0), (3, 0)] [] μ) = some ((0, -2), μ)) ∨ ∃ j, j < fCt S t ∧ dIp S T t at' data p j ∧ (∀ c, c < fCt S t → c ≠ j → ¬ dIp S T t at' data p c) ∧ (ab_run wt (d + 2) 214 0 [(2, 7756), (0, (((30 * s + t : Nat) : Int))), (0, p), (0, (at')), (0, data), (3, 0), (3, 0)] [] μ) = some ((0, ((fX s t j : Nat) : Int)), μ) := sorry
theorem tw_xEnt (ok : scOK S N) (x : TXs X F S N T n s μ σ ε) (i : hIn S σ.1 D) (hr : r < σ.1.1) (ht : σ.1.2.1 r = t) (hj : j < fCt S t) (lt2 : S 11 t j < 2) (h12 : S 12 t j = 12) (hu : σ.2.1 < 4600) (ve : σ.1.2.2.1 r j = []) (hv : onE S t r j σ.1) {σ' : Sx} (e1 : σ'.1 = hRec S σ.1 r j (0, [])) (e2 : σ'.2.1 = σ.2.1 + 1) (e3 : σ'.2.2 = σ.2.2) :
    ∃ μ', (ab_run wt (d + 6) 46 0 [(2, 7756), (0, (ε r)), (0, (fX s t j)), (3, 0)] [] μ) = some ((0, ((55200 + σ.2.1 : Nat) : Int)), μ') ∧ TXs X F S N T n s μ' σ' (upL ε σ.1.1 (55200 + σ.2.1)) ∧ frH 12 μ μ' ∧ frKu μ μ' := sorry
theorem tw_noth (ok : scOK S N) (x : TXs X F S N T n s μ σ ε) (i : hIn S σ.1 D) (hr : r < σ.1.1) (ht : σ.1.2.1 r = t) (hj : j < fCt S t) (ve : σ.1.2.2.1 r j = []) (hv : onE S t r j σ.1) (nm : ¬ isNm S t j) (hx : σ.2.2.1 < 100000) (hd : μ 7756 190 = (dp : Int)) (d12 : dp ≤ 12) (hz : z < 2000) : match dNo S N true r t j dp z σ with
    | .inl f => FtR (ab_run wt (d + 9) 256 0 [(2, 7756), (0, 12), (0, (ε r)), (0, (fX s t j)), (0, z), (3, 0)] [] μ) μ f
    | .inr σ' => ∃ μ' ε', (ab_run wt (d + 9) 256 0 [(2, 7756), (0, 12), (0, (ε r)), (0, (fX s t j)), (0, z), (3, 0)] [] μ) = some ((0, 1), μ') ∧ TXs X F S N T n s μ' σ' ε' ∧ (∀ x, x < σ.1.1 → ε' x = ε x) ∧ frH 12 μ μ' ∧ frKu μ μ' := sorry
end Tx
end
section
section Tx
variable {μ μ' μ'' : ab_M} {d : Nat} {S : SF} {N : NF} {m s n : Nat} {h h' : He} {al : Nat → Bool} {ε ε' : Nat → Nat} {uM pM r j e p q lv lv' t w at' data ps o dp nr nr' z κ1 κ φ ρ : Nat} {X : RsvT} {F : Nat → Prop} {D : Nat → Nat} {v k last : Int} {l : List Int} {T : Nat → Int} {σ σ' : Sx}
theorem TD.addK {fi : Nat} (x : TD X F S N m s μ h al ε uM pM) (hr : r < h.1) (ha : al r = true) (hj : j < fCt S (h.2.1 r)) (m2 : S 11 (h.2.1 r) j = 2) (h12 : S 12 (h.2.1 r) j ≠ 12) (hu : uM < 4600) (hl : fi + l.length ≤ pM) (hb : tBy μ 7879 (9000 * m + fi) l) :
    R0 (ab_run wt (d + 4) 0 0 [(2, 7756), (0, (ε r)), (0, (fX s (h.2.1 r) j)), (1, v), (3, 0), (0, fi), (0, (l.length)), (3, 0)] [] μ) (fun _ μ' => TD X F S N m s μ' (hSet S N h r j (0, []) v l) al ε (uM + 1) pM ∧ frH m μ μ' ∧ frKt m uM pM μ μ') := sorry
theorem tw_xItem {fi x6 : Nat} {x7 x8 : Int} {i c0 : Nat} (hx5 : (fi : Int) = (if S 12 t j = 9 ∨ S 12 t j = 10 then μ 7756 191 else 0) ∧ (l.length : Int) = (if S 12 t j = 9 ∨ S 12 t j = 10 then μ 7756 192 else 0)) (k12 : 0 ≤ S 12 t j ∧ S 12 t j ≤ 12) (c : tXw μ n T σ.2.2.2.1) (hi : μ 7756 202 = (σ.2.2.2.2.1 : Int)) (td : TD X F (upS S σ.2.2.1) N 12 s μ σ.1 tr1 ε σ.2.1 pM) (hp : pM ≤ σ.2.2.2.2.2) (hr : r < σ.1.1) (ht : σ.1.2.1 r = t) (hj : j < fCt S t) (m2 : S 11 t j = 2) (h12 : S 12 t j ≠ 12) (hx : σ.2.2.1 < 100000) (hl : fi + l.length ≤ pM) (hb : tBy μ 7879 (9000 * 12 + fi) l) (hi4 : i < 1000) :
    ∃ μ', (ab_run wt (d + 11) 254 212 [(2, 7756), (0, 12), (0, (ε r)), (0, (fX s t j)), (3, 0), (0, (kSort (S 12 t j))), (0, x6), (0, x7), (0, x8), (0, i), (3, 0), (3, 0)] [(1, v)] μ) = (ab_run wt (d + 11) 254 140 [(2, 7756), (0, 12), (0, (ε r)), (0, (fX s t j)), (3, 0), (0, (kSort (S 12 t j))), (0, x6), (0, x7), (0, x8), (0, (((i + 1 : Nat) : Int))), (3, 0), (3, 0)] [] μ') ∧ TXs X F S N T n s μ' (dPut S N true r j v l σ) ε ∧ frH 12 μ μ' ∧ frKu μ μ' := sorry
theorem bt_eq {a b1 b2 x y : Nat} (h1 : x < 64 * b1) (h2 : x < 64 * b2) : bt T a b1 x y = bt T a b2 x y := sorry
def frIt (μ μ' : ab_M) : Prop := ∀ a i, ¬ mine 12 a i → (a ≠ 7756 ∨ i ≠ 17 ∧ i ≠ 18 ∧ i ≠ 191 ∧ i ≠ 192 ∧ i ≠ 202 ∧ (i < 216 ∨ 232 < i)) → μ' a i = μ a i
theorem frIt.refl : frIt μ μ := sorry
theorem frIt.trans (f : frIt μ μ') (g : frIt μ' μ'') : frIt μ μ'' := sorry
theorem frH.it (f : frH 12 μ μ') : frIt μ μ' := sorry
theorem frXa.it (f : frXa μ μ') : frIt μ μ' := sorry
theorem frXb.it (f : frXb pM μ μ') : frIt μ μ' := sorry
theorem frIt.tx (f : frIt μ μ') : frTx lv μ μ' := sorry
theorem frXb.ku (f : frXb pM μ μ') {pM' : Nat} (h2 : μ 7868 12 = (pM : Int)) (h4 : μ' 7868 12 = (pM' : Int)) (l2 : pM ≤ pM') : frKu μ μ' := sorry
theorem frXa.ku (f : frXa μ μ') : frKu μ μ' := sorry
theorem TD.xb (x : TD X F S N 12 s μ h tr1 ε uM pM) (hr : r < h.1) (f : frXb pM μ μ') {pM' : Nat} (h4 : μ' 7868 12 = (pM' : Int)) (l1 : pM ≤ pM') (l2 : pM' ≤ 9000) : TD X F S N 12 s μ' h tr1 ε uM pM' := sorry
theorem tw_it140 {c0 b0 : Nat} (hT : ∀ k, k < 8 * n → 0 ≤ T k ∧ T k < 256) (ts0 : scOK S N) (hj : j < fCt S t) (m2 : S 11 t j = 2) (h12 : S 12 t j ≠ 12) (hc0 : c0 ≤ 400) (hb0 : b0 ≤ n) (hby : S 12 t j = 9 ∨ S 12 t j = 10 → b0 + c0 ≤ n) (hbn : ¬ (S 12 t j = 9 ∨ S 12 t j = 10) → c0 * (kBits (S 12 t j)).toNat ≤ 64 * (n - b0)) : ∀ (m i : Nat) (μ : ab_M) (σ : Sx), i + m = c0 → TXs X F S N T n s μ σ ε → r < σ.1.1 → σ.1.2.1 r = t → ivX true κ1 (κ + m) φ ρ σ →
    match dIt S N true T n r j b0 (S 12 t j) m i σ with
    | .inl f => FtR (ab_run wt (d + 11) 254 140 [(2, 7756), (0, 12), (0, (ε r)), (0, (fX s t j)), (3, 0), (0, (kSort (S 12 t j))), (0, c0), (0, ((if S 12 t j = 9 ∨ S 12 t j = 10 then 64 else kBits (S 12 t j)))), (0, b0), (0, i), (3, 0), (3, 0)] [] μ) μ f
    | .inr σ' => ∃ μ', (ab_run wt (d + 11) 254 140 [(2, 7756), (0, 12), (0, (ε r)), (0, (fX s t j)), (3, 0), (0, (kSort (S 12 t j))), (0, c0), (0, ((if S 12 t j = 9 ∨ S 12 t j = 10 then 64 else kBits (S 12 t j)))), (0, b0), (0, i), (3, 0), (3, 0)] [] μ) = some ((0, 1), μ') ∧ TXs X F S N T n s μ' σ' ε ∧ frIt μ μ' ∧ frKu μ μ' := sorry
end Tx
end
section
section Tx
variable {μ μ' μ'' : ab_M} {d : Nat} {S : SF} {N : NF} {m s n : Nat} {h h' : He} {al : Nat → Bool} {ε ε' : Nat → Nat} {uM pM r j e p q lv lv' t w at' data ps o dp nr nr' z κ1 κ φ ρ sort : Nat} {X : RsvT} {F : Nat → Prop} {D : Nat → Nat} {v k last : Int} {l : List Int} {T : Nat → Int} {σ σ' : Sx} {x : BitVec 64} {rec : Rx}
theorem t_f6 : w32 (and64 (ushr64 x.toInt 2) 1073741823) = ((x.toNat % 4294967296 / 4 : Nat) : Int) := sorry
theorem dAll_b {k : Int} {c : Nat} (h1 : 0 ≤ k) (h2 : k ≤ 8 ∨ k = 11) : c * (kBits k).toNat ≤ 64 * dAll (kSort k).toNat c := sorry
theorem tw_l37 {x2 : Int} (ts : TS μ s S N) (t1 : (t : Int) < S 0 0 0) (t2 : S 2 t 0 = 1) (hj : j < fCt S t) (hs : (sort : Int) = if S 11 t j = 3 then 7 else kSort (S 12 t j)) (c : tXw μ n T w) (hp : p < n) (nz : wdT T p ≠ 0) :
    (∀ f, dFL T n p sort w = .inl f → FtR (ab_run wt (d + 11) 254 0 [(2, 7756), (0, 12), (0, x2), (0, (fX s t j)), (0, p), (3, 0), (3, 0), (3, 0), (3, 0), (3, 0), (3, 0), (3, 0)] [] μ) μ f) ∧ ∀ b cn w', dFL T n p sort w = .inr (b, cn, w') → ∃ μ1, tXw μ1 n T w' ∧ μ1 7756 226 = (b : Int) ∧ μ1 7756 230 = (cn : Int) ∧ frXa μ μ1 ∧ (ab_run wt (d + 11) 254 0 [(2, 7756), (0, 12), (0, x2), (0, (fX s t j)), (0, p), (3, 0), (3, 0), (3, 0), (3, 0), (3, 0), (3, 0), (3, 0)] [] μ) = (if (sort : Int) = 7 then (if S 11 t j = 2 then (if 12 < w32 (μ1 7756 190 + 1) then (ab_cal (ab_run wt (d + 10) 340 0 [(2, 7756), (0, 6), (0, (8 * (p : Int)))] [] μ1) 0 (fun r2 μ2 => some ((4, r2), μ2)) (fun r2 μ2 => (if r2 = 0 ∨ r2 = 1 then some ((0, r2), μ2) else none))) else (ab_run wt (d + 11) 254 319 [(2, 7756), (3, 0), (0, x2), (0, (fX s t j)), (0, p), (3, 0), (0, cn), (3, 0), (3, 0), (3, 0), (3, 0), (3, 0)] [] μ1)) else (ab_run wt (d + 11) 254 319 [(2, 7756), (3, 0), (0, x2), (0, (fX s t j)), (0, p), (3, 0), (0, cn), (3, 0), (3, 0), (3, 0), (3, 0), (3, 0)] [] μ1)) else (if 400 < w32 (μ1 7756 202 + cn) then (ab_cal (ab_run wt (d + 10) 340 0 [(2, 7756), (0, 7), (0, (8 * (p : Int)))] [] μ1) 0 (fun r3 μ3 => some ((4, r3), μ3)) (fun r3 μ3 => (if r3 = 0 ∨ r3 = 1 then some ((0, r3), μ3) else none))) else (ab_cal (ab_run wt (d + 10) 13 0 [(2, 7756), (0, sort)] [] (ab_up μ1 7756 202 (w32 (μ1 7756 202 + cn)))) 0 (fun r4 μ4 => some ((4, r4), μ4)) (fun r4 μ4 => (ab_run wt (d + 11) 254 140 [(2, 7756), (0, 12), (0, x2), (0, (fX s t j)), (3, 0), (0, sort), (0, cn), (0, r4), (0, (μ4 7756 226)), (0, 0), (3, 0), (3, 0)] [] μ4))))) := sorry
theorem tw_xItems (hT : ∀ k, k < 8 * n → 0 ≤ T k ∧ T k < 256) (ok : scOK S N) (hj : j < fCt S t) (m2 : S 11 t j = 2) (h12 : S 12 t j ≠ 12) (x : TXs X F S N T n s μ σ ε) (hr : r < σ.1.1) (ht : σ.1.2.1 r = t) (hp : p < n) (nz : wdT T p ≠ 0) (iv : ivX true κ1 κ φ ρ σ) :
    match dLs S N true T n rec r t j dp p σ with
    | .inl f => FtR (ab_run wt (d + 11) 254 0 [(2, 7756), (0, 12), (0, (ε r)), (0, (fX s t j)), (0, p), (3, 0), (3, 0), (3, 0), (3, 0), (3, 0), (3, 0), (3, 0)] [] μ) μ f
    | .inr σ' => ∃ μ', (ab_run wt (d + 11) 254 0 [(2, 7756), (0, 12), (0, (ε r)), (0, (fX s t j)), (0, p), (3, 0), (3, 0), (3, 0), (3, 0), (3, 0), (3, 0), (3, 0)] [] μ) = some ((0, 1), μ') ∧ TXs X F S N T n s μ' σ' ε ∧ frIt μ μ' ∧ frKu μ μ' := sorry
theorem dLs_rows {g : Bool} (z : S 11 t j = 3 ∨ S 12 t j = 12) (m2 : 2 ≤ S 11 t j ∧ S 11 t j ≤ 3) (hdp : dp ≤ 12) : dLs S N g T n rec r t j dp q σ = match dFs T n q (if S 11 t j = 3 then dp else dp + 1) σ.2.2.2.1 σ.2.2.2.2.1 with
    | .inl f => .inl f
    | .inr (b, m, dt, ps, w) => dRw S N T n rec r t j dp q dt ps m (b + 1) none (sxL σ w (σ.2.2.2.2.1 + m)) := sorry
theorem dFs_ok {w Ls b m dt ps w' : Nat} (e : dFs T n p dp w Ls = .inr (b, m, dt, ps, w')) : b + 1 + m * (dt + ps) ≤ n ∧ Ls + m ≤ 400 ∧ dt < 65536 ∧ ps < 65536 ∧ w' = w + max 1 (m * (dt + ps) + 1) ∧ w' ≤ 1000 ∧ dp ≤ 12 := sorry
def wFx (μ : ab_M) (lv : Nat) (x f : Int) (m pos dt ps q : Nat) (last : Int) : Prop := μ 7912 lv = x ∧ μ 7916 lv = f ∧ μ 7917 lv = (m : Int) ∧ μ 7918 lv = (pos : Int) ∧ μ 7914 lv = (dt : Int) ∧ μ 7915 lv = ((dt + ps : Nat) : Int) ∧ μ 7919 lv = (q : Int) ∧ μ 7920 lv = last
theorem tw_xRows (hj : j < fCt S t) (z : S 11 t j = 3 ∨ S 12 t j = 12) (m2 : 2 ≤ S 11 t j ∧ S 11 t j ≤ 3) (x : TXs X F S N T n s μ σ ε) (hr : r < σ.1.1) (ht : σ.1.2.1 r = t) (hp : p < n) (nz : wdT T p ≠ 0) (L4 : σ.2.2.2.2.1 ≤ 400) (hg : μ 7756 175 = (lv : Int)) (l6 : lv < 60) (hd : μ 7756 190 = (dp : Int)) (d12 : dp ≤ 12) :
    (∀ f, dFs T n p (if S 11 t j = 3 then dp else dp + 1) σ.2.2.2.1 σ.2.2.2.2.1 = .inl f → FtR (ab_run wt (d + 11) 254 0 [(2, 7756), (0, 12), (0, (ε r)), (0, (fX s t j)), (0, p), (3, 0), (3, 0), (3, 0), (3, 0), (3, 0), (3, 0), (3, 0)] [] μ) μ f) ∧ ∀ b m dt ps w', dFs T n p (if S 11 t j = 3 then dp else dp + 1) σ.2.2.2.1 σ.2.2.2.2.1 = .inr (b, m, dt, ps, w') → ∃ μ', (ab_run wt (d + 11) 254 0 [(2, 7756), (0, 12), (0, (ε r)), (0, (fX s t j)), (0, p), (3, 0), (3, 0), (3, 0), (3, 0), (3, 0), (3, 0), (3, 0)] [] μ) = some ((0, 1), μ') ∧ TXs X F S N T n s μ' (sxL σ w' (σ.2.2.2.2.1 + m)) ε ∧ wFx μ' lv (ε r) (fX s t j) m (b + 1) dt ps p (-2) ∧ μ' 7756 175 = ((lv + 1 : Nat) : Int) ∧ μ' 7756 190 = (dp : Int) ∧ frTx lv μ μ' ∧ frKu μ μ' := sorry
end Tx
end
