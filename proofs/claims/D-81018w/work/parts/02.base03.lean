set_option maxRecDepth 16384
section
section Xc
variable {T : Nat → Int} {n : Nat} {k k2 k3 : Tok} {S : SF} {N : NF} {bd : Nat} {h h' : He} {K K' : List Fr} {X Y Z : Xs} {f : Flt} {key : Int × List Int} {r j : Nat} {v : Int} {l : List Int}
def xHp (S : SF) (N : NF) (h h' : He) : Prop := h' = h ∨ ∃ r j key, r < h.1 ∧ j < fCt S (h.2.1 r) ∧ ((S 12 (h.2.1 r) j ≠ 12 ∧ ∃ v l, (S 12 (h.2.1 r) j ≠ 9 → S 12 (h.2.1 r) j ≠ 10 → l = []) ∧ (S 12 (h.2.1 r) j = 9 ∨ S 12 (h.2.1 r) j = 10 → v = 0) ∧ h' = hSet S N h r j key v l) ∨ S 12 (h.2.1 r) j = 12 ∧ h' = hRec S h r j key)
theorem xVal_h (hr : r < h.1) (hj : j < fCt S (h.2.1 r)) (e : xVal S N T n bd h K r j key k = .inr X) : xHp S N h X.2.1 := sorry
theorem xStep_h (q : xOK S X) (e : xStep S N T n bd X = .inr Y) : xHp S N X.2.1 Y.2.1 := sorry
theorem xIt_h {P : He → Prop} (st : ∀ h h', P h → xHp S N h h' → P h') : ∀ (c : Nat) (X Z : Xs), xOK S X → P X.2.1 → xIt S N T n bd c X = .inr Z → P Z.2.1 := sorry
def hTy (S : SF) (h : He) : Prop := ∀ r, r < h.1 → (h.2.1 r : Int) < S 0 0 0 ∧ S 2 (h.2.1 r) 0 = 1
theorem hTy.fd (ok : scOK S N) (g : hTy S h) (hr : r < h.1) (hj : j < fCt S (h.2.1 r)) : fdOK S N (h.2.1 r) j := sorry
theorem xHp_C (ok : scOK S N) (g : hTy S h ∧ hCn S h) (e : xHp S N h h') : hTy S h' ∧ hCn S h' := sorry
end Xc
end
section
section Mz
variable {μ μ' μ'' μ0 : ab_M} {d : Nat} {S : SF} {N : NF} {A cr ci cb kS b : Nat} {h : He} {X : Rsv}
abbrev Ac := Int × Int × Int × Int
def mzU : List Un → Ac → Ac
  | [], a => a
  | u :: L, a => mzU L (a.1 + 1, a.2.1 + u.2.2.length, a.2.2.1, a.2.2.2 + 1)
def mzC (f : Nat → Ac → Ac) (rc : Bool) (t : It) (a : Ac) : Ac := if rc = true then f t.2.2.2.2 a else a
def mzI (f : Nat → Ac → Ac) (m3 k9 bb rc : Bool) : List It → Ac → Ac
  | [], a => a
  | t :: L, a => mzI f m3 k9 bb rc L (mzC f rc t (a.1 + (if m3 = true then 2 else 1), a.2.1 + (if k9 = true then (t.2.1.length : Int) else 0) + (if bb = true then (t.2.2.2.1.length : Int) else 0), a.2.2))
def bbK (k : Int) : Bool := decide (k = 9 ∨ k = 10)
def mzF1 (S : SF) (t j : Nat) (f : Nat → Ac → Ac) (l : List It) (a : Ac) : Ac := match l with
  | [] => a
  | u :: L => if S 11 t j < 2 then mzC f (decide (S 12 t j = 12)) u (a.1 + 1, a.2.1 + (if bbK (S 12 t j) = true then (u.2.2.2.1.length : Int) else 0), a.2.2) else mzI f (decide (S 11 t j = 3)) (decide (S 14 t j = 9)) (bbK (S 12 t j)) (decide (S 12 t j = 12)) (u :: L) (a.1 + 1, a.2)
def mzL (S : SF) (t : Nat) (f : Nat → Ac → Ac) (v : Nat → List It) : Nat → Nat → Ac → Ac
  | 0, _, a => a
  | m + 1, j, a => mzL S t f v m (j + 1) (mzF1 S t j f (v j) a)
def mzA (S : SF) (h : He) : Nat → Nat → Nat → Ac → Ac
  | 0, _, _, a => a
  | c + 1, r, dp, a => mzU (h.2.2.2 r) (mzL S (h.2.1 r) (fun x => mzA S h c x (dp + 1)) (h.2.2.1 r) (fCt S (h.2.1 r)) 0 (a.1, a.2.1, if a.2.2.1 < dp then (dp : Int) else a.2.2.1, a.2.2.2))
def acL (a b : Ac) : Prop := a.1 ≤ b.1 ∧ a.2.1 ≤ b.2.1 ∧ a.2.2.2 ≤ b.2.2.2
def acO (a : Ac) : Prop := (0 ≤ a.1 ∧ a.1 < 2147483648) ∧ (0 ≤ a.2.1 ∧ a.2.1 < 2147483648) ∧ 0 ≤ a.2.2.2 ∧ a.2.2.2 < 2147483648
theorem acL.refl {a : Ac} : acL a a := sorry
theorem acL.trans {a b c : Ac} (x : acL a b) (y : acL b c) : acL a c := sorry
theorem acO.mid {a b c : Ac} (x : acO a) (l : acL a b) (m : acL b c) (y : acO c) : acO b := sorry
theorem mzU_le : ∀ (L : List Un) (a : Ac), acL a (mzU L a) := sorry
theorem mzC_le {f : Nat → Ac → Ac} (hf : ∀ x a, acL a (f x a)) {rc : Bool} {t : It} {a : Ac} : acL a (mzC f rc t a) := sorry
theorem mzI_le {f : Nat → Ac → Ac} (hf : ∀ x a, acL a (f x a)) {m3 k9 bb rc : Bool} : ∀ (L : List It) (a : Ac), acL a (mzI f m3 k9 bb rc L a) := sorry
theorem mzF1_le {f : Nat → Ac → Ac} (hf : ∀ x a, acL a (f x a)) {t j : Nat} {l : List It} {a : Ac} : acL a (mzF1 S t j f l a) := sorry
theorem mzL_le {f : Nat → Ac → Ac} (hf : ∀ x a, acL a (f x a)) {t : Nat} {v : Nat → List It} : ∀ (m j : Nat) (a : Ac), acL a (mzL S t f v m j a) := sorry
theorem mzA_le : ∀ (c r dp : Nat) (a : Ac), acL a (mzA S h c r dp a) := sorry
def mzS (μ : ab_M) (a : Ac) : Prop := μ 1 14 = a.1 ∧ μ 1 15 = a.2.1 ∧ μ 1 16 = a.2.2.1 ∧ μ 1 17 = a.2.2.2
def frE (μ μ' : ab_M) : Prop := ∀ a i, (a ≠ 1 ∨ i < 14 ∨ 17 < i) → μ' a i = μ a i
theorem frE.refl : frE μ μ := sorry
theorem frE.trans (f : frE μ μ') (g : frE μ' μ'') : frE μ μ'' := sorry
theorem frE.m (f : frE μ μ') (hm : isM A cr ci cb) {a : Nat} (ha : inM A a) (i : Nat) : μ' a i = μ a i := sorry
theorem cMS.e (c : cMS μ A kS b S N) (hm : isM A cr ci cb) (f : frE μ μ') : cMS μ' A kS b S N := sorry
theorem c_mz286 {L0 : List Un} {ch : List Nat} (hm : isM A cr ci cb) (F30 : ∀ (k i : Nat) (t : Un), ch[k]? = some i → L0[k]? = some t → μ0 (msA A 30) i = t.2.2.length) (F31 : ∀ (k i : Nat), ch[k]? = some i → μ0 (msA A 31) i = nx ch (k + 1)) (Fc : ∀ i ∈ ch, i < ci) : ∀ (L : List Un) (p : Nat) (μ : ab_M) (a : Ac), frE μ0 μ → (∀ q : Nat, L0[p + q]? = L[q]?) → p + L.length = ch.length → mzS μ a → acO a → acO (mzU L a) → R3 (ab_run wc (d + 1) 450 286 [(2, 1), (2, A), (3, 0), (3, 0), (3, 0), (0, (nx ch p)), (3, 0), (3, 0), (3, 0)] [] μ) (fun μ' => mzS μ' (mzU L a) ∧ frE μ0 μ') := sorry
end Mz
end
section
section Mz
variable {μ μ' μ'' μ0 : ab_M} {d : Nat} {S : SF} {N : NF} {A cr ci cb kS b : Nat} {h : He} {X : Rsv} {t r j dp : Nat}
def mzP (A : Nat) (μ0 : ab_M) (D dp : Nat) (f : Nat → Ac → Ac) (c : Nat) : Prop := ∀ (μ : ab_M) (a : Ac), frE μ0 μ → mzS μ a → acO a → acO (f c a) → R3 (ab_run wc D 450 0 [(2, 1), (2, A), (0, c), (0, (((dp : Nat) : Int))), (3, 0), (3, 0), (3, 0), (3, 0), (3, 0)] [] μ) (fun μ' => mzS μ' (f c a) ∧ frE μ0 μ')
theorem mzS.e {a : Ac} (s : mzS μ a) : μ 1 14 = a.1 ∧ μ 1 15 = a.2.1 ∧ μ 1 16 = a.2.2.1 ∧ μ 1 17 = a.2.2.2 := sorry
theorem c_mz152 {D F : Nat} {ta : Int} {f : Nat → Ac → Ac} {L0 : List It} {ch : List Nat} (hm : isM A cr ci cb) (hf : ∀ x a, acL a (f x a)) (hF : wc_ob F 8 = true) (F1 : F ≠ 1) (F2 : μ0 F 2 = S 11 t j) (F3 : μ0 F 3 = 200000 + S 12 t j) (F5 : μ0 F 5 = if S 14 t j = -2 then 0 else 200000 + S 14 t j) (k1 : 0 ≤ S 12 t j ∧ S 12 t j ≤ 12) (hdp : dp < 100000) (hj : j < 100000)
    (F22 : ∀ (k i : Nat), ch[k]? = some i → μ0 (msA A 22) i = nx ch (k + 1)) (F25 : S 14 t j = 9 → ∀ (k i : Nat) (q : It), ch[k]? = some i → L0[k]? = some q → μ0 (msA A 25) i = q.2.1.length) (F20 : S 12 t j = 9 ∨ S 12 t j = 10 → ∀ (k i : Nat) (q : It), ch[k]? = some i → L0[k]? = some q → μ0 (msA A 20) i = q.2.2.2.1.length) (F21 : S 12 t j = 12 → ∀ (k i : Nat) (q : It), ch[k]? = some i → L0[k]? = some q → μ0 (msA A 21) i = q.2.2.2.2 ∧ mzP A μ0 (D + 1) (dp + 1) f q.2.2.2.2) (Fc : ∀ i ∈ ch, i < ci) :
    ∀ (L : List It) (p : Nat) (μ : ab_M) (a : Ac), frE μ0 μ → (∀ q : Nat, L0[p + q]? = L[q]?) → p + L.length = ch.length → mzS μ a → acO a → acO (mzI f (decide (S 11 t j = 3)) (decide (S 14 t j = 9)) (bbK (S 12 t j)) (decide (S 12 t j = 12)) L a) → ∃ μ', (ab_run wc (D + 2) 450 152 [(2, 1), (2, A), (0, r), (0, dp), (2, ta), (0, j), (2, F), (3, 0), (0, (nx ch p))] [] μ) = (ab_run wc (D + 2) 450 23 [(2, 1), (2, A), (0, r), (0, dp), (2, ta), (0, (((j + 1 : Nat) : Int))), (3, 0), (3, 0), (3, 0)] [] μ') ∧ mzS μ' (mzI f (decide (S 11 t j = 3)) (decide (S 14 t j = 9)) (bbK (S 12 t j)) (decide (S 12 t j = 12)) L a) ∧ frE μ0 μ' := sorry
end Mz
end
section
section Mz
variable {μ μ' μ'' μ0 : ab_M} {d : Nat} {S : SF} {N : NF} {A cr ci cb kS b : Nat} {h : He} {X : Rsv} {t r j dp ni nu us : Nat}
theorem CM.unk {nr : Nat} {ty : Nat → Nat} {V : Nat → Nat → List It} {U : Nat → List Un} (c : CM X S μ A cr ci cb nr ty V U ni nu us) (hr : r < nr) : ∃ ch, cUn μ A us nu r (U r) ch := sorry
def hDn (S : SF) (h : He) (al : Nat → Bool) : Prop := ∀ r, r < h.1 → al r = true → ∀ j, j < fCt S (h.2.1 r) → S 12 (h.2.1 r) j = 12 → ∀ q ∈ h.2.2.1 r j, r < q.2.2.2.2 ∧ q.2.2.2.2 < h.1 ∧ al q.2.2.2.2 = true
theorem c_mz23 {D : Nat} {f : Nat → Ac → Ac} (hm : isM A cr ci cb) (hf : ∀ x a, acL a (f x a)) (ms0 : cMS μ0 A kS b S N) (cm0 : CM X S μ0 A cr ci cb h.1 h.2.1 h.2.2.1 h.2.2.2 ni nu us) (hr : r < h.1) (hdp : dp < 100000) (cn : hCn S h) (hi : hI S h) (hc : ∀ j, j < fCt S (h.2.1 r) → S 12 (h.2.1 r) j = 12 → ∀ q ∈ h.2.2.1 r j, q.2.2.2.2 < h.1 ∧ mzP A μ0 (D + 1) (dp + 1) f q.2.2.2.2) :
    ∀ (m j : Nat) (μ : ab_M) (a : Ac), j + m = fCt S (h.2.1 r) → frE μ0 μ → mzS μ a → acO a → acO (mzU (h.2.2.2 r) (mzL S (h.2.1 r) f (h.2.2.1 r) m j a)) → R3 (ab_run wc (D + 2) 450 23 [(2, 1), (2, A), (0, r), (0, dp), (2, (tyA b (h.2.1 r))), (0, j), (3, 0), (3, 0), (3, 0)] [] μ) (fun μ' => mzS μ' (mzU (h.2.2.2 r) (mzL S (h.2.1 r) f (h.2.2.1 r) m j a)) ∧ frE μ0 μ') := sorry
theorem c_mz {al : Nat → Bool} (hm : isM A cr ci cb) (dn : hDn S h al) (cn : hCn S h) (hi : hI S h) : ∀ (c D : Nat) (μ0 : ab_M) (r dp : Nat), c + 3 ≤ D → r < h.1 → al r = true → h.1 ≤ r + c → dp ≤ r + 1 → cMS μ0 A kS b S N → CM X S μ0 A cr ci cb h.1 h.2.1 h.2.2.1 h.2.2.2 ni nu us → mzP A μ0 D dp (fun x => mzA S h c x dp) r := sorry
end Mz
end
section
section Mz
variable {S : SF} {h : He} {f : Nat → Ac → Ac} {gv gb gu : Nat → Int} {P : Nat → Prop}
def sumI (F : Nat → Int) : List It → Int
  | [] => 0
  | t :: L => F t.2.2.2.2 + sumI F L
def mz (S : SF) (h : He) (lo : Nat → Int) : Nat → Nat → Int
  | 0, _ => 0
  | c + 1, r => lo r + sumN (fun j => if S 12 (h.2.1 r) j = 12 then sumI (mz S h lo c) (h.2.2.1 r j) else 0) (fCt S (h.2.1 r))
theorem mzU_sum : ∀ (L : List Un) (a : Ac), (mzU L a).1 = a.1 + L.length ∧ (mzU L a).2.1 = a.2.1 + byU L ∧ (mzU L a).2.2.2 = a.2.2.2 + L.length := sorry
def adds (P : Nat → Prop) (f : Nat → Ac → Ac) (gv gb gu : Nat → Int) : Prop := ∀ x, P x → ∀ a, (f x a).1 = a.1 + gv x ∧ (f x a).2.1 = a.2.1 + gb x ∧ (f x a).2.2.2 = a.2.2.2 + gu x
theorem mzI_sum {t j : Nat} (hf : adds P f gv gb gu) : ∀ (L : List It) (a : Ac), (∀ q ∈ L, itC S t j q) → (S 11 t j ≠ 3 → S 14 t j ≠ 9) → (S 12 t j = 12 → ∀ q ∈ L, P q.2.2.2.2) →
    (mzI f (decide (S 11 t j = 3)) (decide (S 14 t j = 9)) (bbK (S 12 t j)) (decide (S 12 t j = 12)) L a).1 = a.1 + L.length * (if S 11 t j = 3 then 2 else 1) + (if S 12 t j = 12 then sumI gv L else 0) ∧
    (mzI f (decide (S 11 t j = 3)) (decide (S 14 t j = 9)) (bbK (S 12 t j)) (decide (S 12 t j = 12)) L a).2.1 = a.2.1 + byV L + (if S 12 t j = 12 then sumI gb L else 0) ∧
    (mzI f (decide (S 11 t j = 3)) (decide (S 14 t j = 9)) (bbK (S 12 t j)) (decide (S 12 t j = 12)) L a).2.2.2 = a.2.2.2 + (if S 12 t j = 12 then sumI gu L else 0) := sorry
theorem mzF1_sum {t j : Nat} (hf : adds P f gv gb gu) {l : List It} {a : Ac} (hc : ∀ q ∈ l, itC S t j q) (h9 : S 11 t j ≠ 3 → S 14 t j ≠ 9) (h1 : S 11 t j < 2 → l.length ≤ 1) (hP : S 12 t j = 12 → ∀ q ∈ l, P q.2.2.2.2) :
    (mzF1 S t j f l a).1 = a.1 + (wgV (S 11 t j) l + (if S 12 t j = 12 then sumI gv l else 0)) ∧ (mzF1 S t j f l a).2.1 = a.2.1 + (byV l + (if S 12 t j = 12 then sumI gb l else 0)) ∧ (mzF1 S t j f l a).2.2.2 = a.2.2.2 + (if S 12 t j = 12 then sumI gu l else 0) := sorry
theorem mzL_sum {t : Nat} (hf : adds P f gv gb gu) {v : Nat → List It} : ∀ (m j : Nat) (a : Ac), (∀ x, x < j + m → (∀ q ∈ v x, itC S t x q) ∧ (S 11 t x ≠ 3 → S 14 t x ≠ 9) ∧ (S 11 t x < 2 → (v x).length ≤ 1) ∧ (S 12 t x = 12 → ∀ q ∈ v x, P q.2.2.2.2)) →
    (mzL S t f v m j a).1 = a.1 + (sumN (fun x => wgV (S 11 t x) (v x) + (if S 12 t x = 12 then sumI gv (v x) else 0)) (j + m) - sumN (fun x => wgV (S 11 t x) (v x) + (if S 12 t x = 12 then sumI gv (v x) else 0)) j) ∧
    (mzL S t f v m j a).2.1 = a.2.1 + (sumN (fun x => byV (v x) + (if S 12 t x = 12 then sumI gb (v x) else 0)) (j + m) - sumN (fun x => byV (v x) + (if S 12 t x = 12 then sumI gb (v x) else 0)) j) ∧
    (mzL S t f v m j a).2.2.2 = a.2.2.2 + (sumN (fun x => if S 12 t x = 12 then sumI gu (v x) else 0) (j + m) - sumN (fun x => if S 12 t x = 12 then sumI gu (v x) else 0) j) := sorry
theorem sumN_add {F G : Nat → Int} : ∀ n, sumN (fun i => F i + G i) n = sumN F n + sumN G n := sorry
theorem mzA_sum {al : Nat → Bool} (dn : hDn S h al) (cn : hCn S h) (hi : hI S h) (h9 : ∀ r j, r < h.1 → j < fCt S (h.2.1 r) → S 11 (h.2.1 r) j ≠ 3 → S 14 (h.2.1 r) j ≠ 9) : ∀ (c dp : Nat), adds (fun r => r < h.1 ∧ al r = true) (fun x => mzA S h c x dp) (mz S h (fun r => loV S (h.2.1 r) (h.2.2.1 r) (h.2.2.2 r)) c) (mz S h (fun r => loB S (h.2.1 r) (h.2.2.1 r) (h.2.2.2 r)) c) (mz S h (fun r => ((h.2.2.2 r).length : Int)) c) := sorry
end Mz
end
section
section Ts
variable {μ : ab_M} {S : SF} {m s n : Nat} {al : Nat → Bool} {ty : Nat → Nat} {V : Nat → Nat → List It} {U : Nat → List Un} {ε : Nat → Nat} {W : Nat → List We} {c uc : Nat → List Nat} {own : Nat → Nat} {uM pM r j : Nat} {F G : Nat → Int} {lo : Nat → Int}
def sumK (F : Nat → Int) : List Nat → Int
  | [] => 0
  | x :: L => F x + sumK F L
theorem sumK_app : ∀ (A B : List Nat), sumK F (A ++ B) = sumK F A + sumK F B := sorry
theorem sumI_to : ∀ {L : List It}, (∀ q ∈ L, F q.2.2.2.2 = G q.2.2.2.2) → sumI F L = sumI G L := sorry
theorem sumN_flat {f : Nat → List Nat} : ∀ n, sumN (fun r => sumK F (f r)) n = sumK F ((List.range n).flatMap f) := sorry
theorem sumK_in : ∀ {L : List Nat}, L.Nodup → (∀ x ∈ L, x < n) → sumK F L = sumN (fun x => if x ∈ L then F x else 0) n := sorry
theorem mz_eq {h : He} {al : Nat → Bool} (dn : hDn S h al) : ∀ (c c' r : Nat), r < h.1 → al r = true → h.1 ≤ r + c → h.1 ≤ r + c' → mz S h lo c r = mz S h lo c' r := sorry
def chl (S : SF) (t : Nat) : List We → List Nat
  | [] => []
  | x :: W => if S 12 t x.1 = 12 then x.2.2.2.2.2 :: chl S t W else chl S t W
theorem chl_sum {t k : Nat} : ∀ (W : List We), (∀ x ∈ W, x.1 < k) → sumN (fun j => if S 12 t j = 12 then sumI F (wV W j) else 0) k = sumK F (chl S t W) := sorry
theorem chl_mem {t x : Nat} : ∀ {W : List We}, x ∈ chl S t W ↔ ∃ y ∈ W, S 12 t y.1 = 12 ∧ y.2.2.2.2.2 = x := sorry
theorem chl_ent {t x : Nat} : ∀ {c : List Nat} {W : List We}, tEs S μ m s pM ε t c W → x ∈ chl S t W → ε x ∈ c := sorry
theorem chl_nd {t : Nat} : ∀ {c : List Nat} {W : List We}, tEs S μ m s pM ε t c W → c.Nodup → (chl S t W).Nodup := sorry
theorem tH.dn (t : tH S μ m s n al ty V U ε W c uc own uM pM) : hDn S (n, ty, V, U) al := sorry
theorem tree_sum (t : tH S μ m s n al ty V U ε W c uc own uM pM) (no : noOr S n al ty V (fun _ => False)) : sumN (fun r => if al r = true then lo r else 0) n = mz S (n, ty, V, U) lo n 0 := sorry
end Ts
end
section
section Lg
variable {μ μ' μ'' : ab_M} {d : Nat} {S : SF} {N : NF} {A cr ci cb kS b : Nat} {h : He} {X : Rsv} {ni nu us m s : Nat} {al : Nat → Bool} {ε : Nat → Nat} {uM pM : Nat}
def vlS (S : SF) (h : He) : Int := mz S h (fun r => loV S (h.2.1 r) (h.2.2.1 r) (h.2.2.2 r)) h.1 0
def btS (S : SF) (h : He) : Int := mz S h (fun r => loB S (h.2.1 r) (h.2.2.1 r) (h.2.2.2 r)) h.1 0
def stS (S : SF) (h : He) : Int := mz S h (fun r => ((h.2.2.2 r).length : Int)) h.1 0
theorem sumN_lem {F G : Nat → Int} : ∀ n, (∀ i, i < n → F i ≤ G i) → sumN F n ≤ sumN G n := sorry
theorem sumI_le {F G : Nat → Int} : ∀ (L : List It), (∀ x, F x ≤ G x) → sumI F L ≤ sumI G L := sorry
theorem mz_le {F G : Nat → Int} (e : ∀ x, F x ≤ G x) : ∀ c r, mz S h F c r ≤ mz S h G c r := sorry
theorem mz_0 : ∀ c r, mz S h (fun _ => 0) c r = 0 := sorry
theorem loV_st {t : Nat} {v : Nat → List It} {u : List Un} : (u.length : Int) ≤ loV S t v u := sorry
theorem c_measure {D : Nat} (hm : isM A cr ci cb) (dn : hDn S h al) (cn : hCn S h) (hi : hI S h) (r0 : μ A 2 = 0) (h0 : 0 < h.1) (a0 : al 0 = true) (ms : cMS μ A kS b S N) (cm : CM X S μ A cr ci cb h.1 h.2.1 h.2.2.1 h.2.2.2 ni nu us) (o : acO (mzA S h h.1 0 1 (0, 0, 0, 0))) (hD : h.1 + 4 ≤ D) : R3 (ab_run wc D 449 0 [(2, 1), (2, A)] [] μ) (fun μ' => mzS μ' (mzA S h h.1 0 1 (0, 0, 0, 0)) ∧ frE μ μ') := sorry
theorem c_isLarge {D : Nat} (hm : isM A cr ci cb) (dn : hDn S h al) (cn : hCn S h) (hi : hI S h) (h9 : ∀ r j, r < h.1 → j < fCt S (h.2.1 r) → S 11 (h.2.1 r) j ≠ 3 → S 14 (h.2.1 r) j ≠ 9) (r0 : μ A 2 = 0) (h0 : 0 < h.1) (a0 : al 0 = true) (ms : cMS μ A kS b S N) (cm : CM X S μ A cr ci cb h.1 h.2.1 h.2.2.1 h.2.2.2 ni nu us) (b1 : 0 ≤ vlS S h ∧ vlS S h < 2147483648) (b2 : 0 ≤ btS S h ∧ btS S h < 2147483648) (hD : h.1 + 5 ≤ D) : R0 (ab_run wc D 415 0 [(2, 1), (2, A)] [] μ) (fun v μ' => v = (if 400 < vlS S h ∨ 2000 < btS S h then 1 else 0) ∧ mzS μ' (mzA S h h.1 0 1 (0, 0, 0, 0)) ∧ μ' 1 14 = vlS S h ∧ frE μ μ') := sorry
theorem TC.is (g0 : gh S m = 0) (tm : TM S μ m s h.1 al h.2.1 h.2.2.1 h.2.2.2 ε uM pM) (tc : TC S μ m h.1 al h.2.1 h.2.2.1 h.2.2.2) (no : noOr S h.1 al h.2.1 h.2.2.1 (fun _ => False)) : μ 7865 m = vlS S h ∧ μ 7866 m = btS S h ∧ (0 ≤ vlS S h ∧ vlS S h < 1000000) ∧ (0 ≤ btS S h ∧ btS S h < 1000000000) ∧ hDn S h al := sorry
theorem tw_isLarge (hm : m < 16) (e1 : μ 7865 m = vlS S h) (e2 : μ 7866 m = btS S h) : (ab_run wt (d + 1) 89 0 [(2, 7756), (0, m)] [] μ) = some ((0, if 400 < vlS S h ∨ 2000 < btS S h then 1 else 0), μ) := sorry
end Lg
end
section
section Rb
variable {μ μ' μ'' μt : ab_M} {d : Nat} {T : Nat → Int} {n : Nat} {S : SF} {N : NF} {A s b : Nat} {h : He} {X : Xs}
theorem xRm_C (ok : scOK S N) (e : xRm S N T n = .inr X) : hTy S X.2.1 ∧ hCn S X.2.1 := sorry
noncomputable def xRl (S : SF) (N : NF) (T : Nat → Int) (n : Nat) : Flt ⊕ He := match xRd S N T n with
  | .inl f => .inl f
  | .inr h => if 400 < vlS S h ∨ 2000 < btS S h then .inl (3, 0) else .inr h
def frV (A : Nat) (μ μ' : ab_M) : Prop := ∀ a i, ¬ inM A a → a ≠ 2 → a ≠ 8 → a ≠ 9 → a ≠ 1309 → (a ≠ 1 ∨ i < 14 ∨ 20 < i) → μ' a i = μ a i
theorem frW.v (f : frW A μ μ') : frV A μ μ' := sorry
theorem frE.v (f : frE μ μ') : frV A μ μ' := sorry
theorem frV.trans (f : frV A μ μ') (g : frV A μ' μ'') : frV A μ μ'' := sorry
def hWell (S : SF) (h : He) : Prop := hG S h ∧ hTy S h ∧ hCn S h ∧ 0 < h.1 ∧ ∃ al, hDn S h al ∧ al 0 = true
theorem c_readL {D : Nat} (hD : 4 * (n + 1) + 14 ≤ D) (hD2 : 2610 ≤ D) (n4 : n ≤ 4000) (ht : μ 3 1 = n) (hx : ∀ k, k < n → 0 ≤ T k ∧ T k < 256 ∧ μ 4 k = sg (T k)) (s4 : s < 4) (h10 : μ 10 s = b) (hb : isS b) (ok : scOK S N) (hc : cSc μ b S N)
    (tr : ∀ h, xRd S N T n = .inr h → (0 ≤ vlS S h ∧ vlS S h < 1000000) ∧ (0 ≤ btS S h ∧ btS S h < 1000000000) ∧ 0 < h.1 ∧ ∃ al, hDn S h al ∧ al 0 = true) :
    (∃ f, xRl S N T n = .inl f ∧ RT (ab_run wc ((D + 1)) 494 0 [(2, 1), (0, s), (3, 0)] [] μ) (fun μ' => μ' 2 6 = f.1 ∧ μ' 2 7 = f.2 ∧ frV 1255 μ μ')) ∨ R3 (ab_run wc ((D + 1)) 494 0 [(2, 1), (0, s), (3, 0)] [] μ) (fun μ' => ∃ h ni nu us, xRl S N T n = .inr h ∧ cMS μ' 1255 s b S N ∧ CM (fun _ => none) S μ' 1255 2600 9000 12000 h.1 h.2.1 h.2.2.1 h.2.2.2 ni nu us ∧ hWell S h ∧ μ' 1255 2 = 0 ∧ frV 1255 μ μ') := sorry
theorem tw_readL (h0 : tTx μt T n) (hs0 : μt 7756 7 = 0) (hf0 : μt 7756 17 = 0) (ts : TS μt s S N) (g0 : S 99 0 0 = 0) :
    (∀ f, xRl S N T n = .inl f → Ft (ab_run wt (d + 13) 255 0 [(2, 7756), (0, s), (3, 0)] [] μt) (frR 12 μt) f.1 f.2 ∨ R0 (ab_run wt (d + 13) 255 0 [(2, 7756), (0, s), (3, 0)] [] μt) (fun v μ1 => v = 1 ∧ frR 12 μt μ1 ∧ (Ft (ab_run wt (d + 13) 99 0 [(2, 7756)] [] μ1) (frR 12 μt) f.1 f.2 ∨ (ab_run wt (d + 13) 99 0 [(2, 7756)] [] μ1) = some ((0, 1), μ1) ∧ (ab_run wt (d + 13) 89 0 [(2, 7756), (0, 12)] [] μ1) = some ((0, 1), μ1) ∧ f = (3, 0) ∧ μ1 7756 17 = 0))) ∧
    ∀ h, xRl S N T n = .inr h → R0 (ab_run wt (d + 13) 255 0 [(2, 7756), (0, s), (3, 0)] [] μt) (fun v μ1 => v = 1 ∧ (ab_run wt (d + 13) 99 0 [(2, 7756)] [] μ1) = some ((0, 1), μ1) ∧ (ab_run wt (d + 13) 89 0 [(2, 7756), (0, 12)] [] μ1) = some ((0, 0), μ1) ∧ (∃ al ε uM pM, TXp S N 12 s 0 μ1 h al ε uM pM) ∧ frR 12 μt μ1) := sorry
theorem xRd_tr (h0 : tTx μt T n) (hs0 : μt 7756 7 = 0) (hf0 : μt 7756 17 = 0) (ts : TS μt s S N) (g0 : S 99 0 0 = 0) : ∀ h, xRd S N T n = .inr h → (0 ≤ vlS S h ∧ vlS S h < 1000000) ∧ (0 ≤ btS S h ∧ btS S h < 1000000000) ∧ 0 < h.1 ∧ ∃ al, hDn S h al ∧ al 0 = true := sorry
end Rb
end
section
section Eq
variable {S : SF} {h h' h'' : He} {R R' R'' : Nat → Nat → Prop} {rc : Bool} {lo lo' : Nat → Int}
def itsE (R : Nat → Nat → Prop) (rc : Bool) : List It → List It → Prop
  | [], [] => True
  | t :: L, t' :: L' => (t.1 = t'.1 ∧ t.2.1 = t'.2.1 ∧ t.2.2.1 = t'.2.2.1 ∧ t.2.2.2.1 = t'.2.2.2.1) ∧ (rc = true → R t.2.2.2.2 t'.2.2.2.2) ∧ itsE R rc L L'
  | [], _ :: _ => False
  | _ :: _, [] => False
def eqT (S : SF) (h h' : He) : Nat → Nat → Nat → Prop
  | 0, _, _ => False
  | f + 1, r, r' => (r < h.1 ∧ r' < h'.1) ∧ h.2.1 r = h'.2.1 r' ∧ h.2.2.2 r = h'.2.2.2 r' ∧ ∀ j, j < fCt S (h.2.1 r) → itsE (eqT S h h' f) (decide (S 12 (h.2.1 r) j = 12)) (h.2.2.1 r j) (h'.2.2.1 r' j)
def hEq (S : SF) (h h' : He) : Prop := ∃ f, eqT S h h' f 0 0
theorem itsE.to : ∀ {L L' : List It}, itsE R rc L L' → (∀ x y, R x y → R' x y) → itsE R' rc L L' := sorry
theorem itsE.symm : ∀ {L L' : List It}, itsE R rc L L' → (∀ x y, R x y → R' y x) → itsE R' rc L' L := sorry
theorem itsE.trans : ∀ {L L' L'' : List It}, itsE R rc L L' → itsE R' rc L' L'' → (∀ x y z, R x y → R' y z → R'' x z) → itsE R'' rc L L'' := sorry
theorem itsE.len : ∀ {L L' : List It}, itsE R rc L L' → L.length = L'.length := sorry
theorem itsE.by : ∀ {L L' : List It}, itsE R rc L L' → byV L = byV L' := sorry
theorem itsE.wg {m : Int} {L L' : List It} (e : itsE R rc L L') : wgV m L = wgV m L' := sorry
theorem itsE.sum {F G : Nat → Int} (z : rc = true) : ∀ {L L' : List It}, itsE R rc L L' → (∀ x y, R x y → F x = G y) → sumI F L = sumI G L' := sorry
theorem eqT.up : ∀ {f r r' : Nat}, eqT S h h' f r r' → eqT S h h' (f + 1) r r' := sorry
theorem eqT.le {f f' r r' : Nat} (e : eqT S h h' f r r') (l : f ≤ f') : eqT S h h' f' r r' := sorry
theorem eqT.symm : ∀ {f r r' : Nat}, eqT S h h' f r r' → eqT S h' h f r' r := sorry
theorem eqT.trans : ∀ {f r r' r'' : Nat}, eqT S h h' f r r' → eqT S h' h'' f r' r'' → eqT S h h'' f r r'' := sorry
theorem hEq.symm (e : hEq S h h') : hEq S h' h := sorry
theorem hEq.trans (e : hEq S h h') (e' : hEq S h' h'') : hEq S h h'' := sorry
theorem eqT.sm (hl : ∀ r r', h.2.1 r = h'.2.1 r' → h.2.2.2 r = h'.2.2.2 r' → (∀ j, j < fCt S (h.2.1 r) → (∀ m, wgV m (h.2.2.1 r j) = wgV m (h'.2.2.1 r' j)) ∧ byV (h.2.2.1 r j) = byV (h'.2.2.1 r' j)) → lo r = lo' r') : ∀ {f r r' : Nat}, eqT S h h' f r r' → mz S h lo f r = mz S h' lo' f r' := sorry
end Eq
end
section
section Cp
variable {μ μ' μ'' : ab_M} {d : Nat} {S : SF} {N : NF} {A cr ci cb : Nat} {X : Rsv} {nr ni nu us it : Nat} {ty : Nat → Nat} {V : Nat → Nat → List It} {U : Nat → List Un}
def kpI (A ni ns : Nat) (μ μ' : ab_M) : Prop := (∀ f, itF f → ∀ i, i < ni → μ' (msA A f) i = μ (msA A f) i) ∧ ∀ f, slF f → ∀ i, i < ns → μ' (msA A f) i = μ (msA A f) i
theorem kpI.trans {ns : Nat} (a : kpI A ni ns μ μ') (b : kpI A ni ns μ' μ'') : kpI A ni ns μ μ'' := sorry
theorem kpI.le {ni' ns ns' : Nat} (a : kpI A ni ns μ μ') (h1 : ni' ≤ ni) (h2 : ns' ≤ ns) : kpI A ni' ns' μ μ' := sorry
theorem c_newItemK {v : Int} (hm : isM A cr ci cb) (hc : CM X S μ A cr ci cb nr ty V U ni nu us) (hn : ni < ci) (e : (ab_run wc (d + 1) 616 0 [(2, A)] [] μ) = some ((0, v), μ')) : (∀ f x, msO f ≠ 0 → (f = 22 ∨ f = 21 → x ≠ ni) → μ' (msA A f) x = μ (msA A f) x) := sorry
theorem kpI.of {ns : Nat} {P : Nat → Nat → Prop} (k : ∀ f x, msO f ≠ 0 → ¬ P f x → (f = 32 → x < us) → μ' (msA A f) x = μ (msA A f) x) (h1 : ∀ f x, P f x → itF f ∧ x = ni) : kpI A ni ns μ μ' := sorry
def kwM (μ : ab_M) (A a o us n fa fb it : Nat) : ab_M := ab_up (ab_up (ab_up (ab_cp μ a o (msA A 32) us n) A 33 ((us + n : Nat) : Int)) (msA A fa) it us) (msA A fb) it n
theorem c_keepW {fa fb a o : Nat} {l : List Int} {q : Nat × Nat × It} (hm : isM A cr ci cb) (ga : itF fa ∧ fa ≠ 22) (gb : itF fb ∧ fb ≠ 22) (gn : fa ≠ fb) (cm : CM X S μ A cr ci cb nr ty V U ni nu us) (hx : X it = some q) (na : ¬ inM A a) (hb : cBy μ a o l) (hu : us + l.length ≤ cb) :
    CM (upL X it (some (3, 0, itN 0))) S (kwM μ A a o us l.length fa fb it) A cr ci cb nr ty V U ni nu (us + l.length) ∧ frM A μ (kwM μ A a o us l.length fa fb it) ∧ cMt (kwM μ A a o us l.length fa fb it) A (us + l.length) fa fb it l ∧ (∀ f x, msO f ≠ 0 → (f = fa ∨ f = fb → x ≠ it) → (f = 32 → x < us) → kwM μ A a o us l.length fa fb it (msA A f) x = μ (msA A f) x) := sorry
end Cp
end
section
section Cp
variable {μ μ' μ'' : ab_M} {d : Nat} {S : SF} {N : NF} {A cr ci cb : Nat} {X : Rsv} {nr ni nu us it : Nat} {ty : Nat → Nat} {V : Nat → Nat → List It} {U : Nat → List Un}
theorem upL_up {α : Type} {f : Nat → α} {r : Nat} {a b : α} : upL (upL f r a) r b = upL f r b := sorry
theorem c_itW {a23 a18 : Int} {q : Nat × Nat × It} (cm : CM X S μ A cr ci cb nr ty V U ni nu us) (hx : X it = some q) : CM (upL X it (some (3, 0, itN 0))) S (ab_up (ab_up μ (msA A 18) it a18) (msA A 23) it a23) A cr ci cb nr ty V U ni nu us ∧ frM A μ (ab_up (ab_up μ (msA A 18) it a18) (msA A 23) it a23) ∧ ∀ f x, msO f ≠ 0 → (f = 18 ∨ f = 23 → x ≠ it) → ab_up (ab_up μ (msA A 18) it a18) (msA A 23) it a23 (msA A f) x = μ (msA A f) x := sorry
theorem c_cpItem {A2 cr2 ci2 cb2 us2 F i t j : Nat} {s : Int} {q : It} (hm : isM A cr ci cb) (hm2 : isM A2 cr2 ci2 cb2) (dj : ∀ a, inM A2 a → ¬ inM A a) (hF : wc_ob F 8 = true) (nF : ¬ inM A F) (F3 : μ F 3 = 200000 + S 12 t j) (F5 : μ F 5 = if S 14 t j = -2 then 0 else 200000 + S 14 t j) (kr : 0 ≤ S 12 t j ∧ S 12 t j ≤ 12) (s14 : S 14 t j = 9 → S 11 t j = 3)
    (cm : CM X S μ A cr ci cb nr ty V U ni nu us) (hn : ni < ci) (hi : i < ci2) (iq : cIt μ A2 us2 (fSo (S 12 t j)) (fKs (S 11 t j) (S 14 t j)) i q) (qh : q.2.2.2.2 ≠ hole) (u2 : us2 ≤ cb2) (hu : us + q.2.1.length + q.2.2.2.1.length ≤ cb) (c1 : S 14 t j ≠ 9 → q.2.1 = []) (c2 : S 12 t j ≠ 9 → S 12 t j ≠ 10 → q.2.2.2.1 = []) :
    ∃ μ', (ab_run wc (d + 2) 384 0 [(2, 1), (2, A), (0, s), (2, A2), (0, i), (2, F), (3, 0)] [] μ) = (ab_run wc (d + 2) 384 142 [(2, 1), (2, A), (0, s), (2, A2), (0, i), (2, F), (0, ni)] [] μ') ∧ CM (upL X ni (some (fSo (S 12 t j), fKs (S 11 t j) (S 14 t j), (q.1, q.2.1, q.2.2.1, q.2.2.2.1, hole)))) S μ' A cr ci cb nr ty V U (ni + 1) nu (us + q.2.1.length + q.2.2.2.1.length) ∧ (S 12 t j ≠ 12 → CM (upL X ni (some (fSo (S 12 t j), fKs (S 11 t j) (S 14 t j), (q.1, q.2.1, q.2.2.1, q.2.2.2.1, 0)))) S μ' A cr ci cb nr ty V U (ni + 1) nu (us + q.2.1.length + q.2.2.2.1.length)) ∧ frM A μ μ' ∧ ∀ ns, kpI A ni ns μ μ' := sorry
end Cp
end
section
section Cq
variable {S : SF} {h h2 h3 : He} {lo : Nat}
def cpT (S : SF) (h h2 : He) (lo : Nat) : Nat → Nat → Nat → Prop
  | 0, _, _ => False
  | f + 1, r, r' => (r < h.1 ∧ lo ≤ r' ∧ r' < h2.1) ∧ h.2.1 r = h2.2.1 r' ∧ h.2.2.2 r = h2.2.2.2 r' ∧ ∀ j, j < fCt S (h.2.1 r) → itsE (cpT S h h2 lo f) (decide (S 12 (h.2.1 r) j = 12)) (h.2.2.1 r j) (h2.2.2.1 r' j)
theorem cpT.eq : ∀ {f r r' : Nat}, cpT S h h2 lo f r r' → eqT S h h2 f r r' := sorry
theorem cpT.ext (n : h2.1 ≤ h3.1) (s : ∀ a, lo ≤ a → a < h2.1 → h3.2.1 a = h2.2.1 a ∧ h3.2.2.1 a = h2.2.2.1 a ∧ h3.2.2.2 a = h2.2.2.2 a) : ∀ {f r r' : Nat}, cpT S h h2 lo f r r' → cpT S h h3 lo f r r' := sorry
theorem cpT.low {lo' : Nat} (l : lo' ≤ lo) : ∀ {f r r' : Nat}, cpT S h h2 lo f r r' → cpT S h h2 lo' f r r' := sorry
theorem cpT.up : ∀ {f r r' : Nat}, cpT S h h2 lo f r r' → cpT S h h2 lo (f + 1) r r' := sorry
theorem itsE.app {R : Nat → Nat → Prop} {rc : Bool} {t t' : It} : ∀ {L L' : List It}, itsE R rc L L' → (t.1 = t'.1 ∧ t.2.1 = t'.2.1 ∧ t.2.2.1 = t'.2.2.1 ∧ t.2.2.2.1 = t'.2.2.2.1) → (rc = true → R t.2.2.2.2 t'.2.2.2.2) → itsE R rc (L ++ [t]) (L' ++ [t']) := sorry
end Cq
end
section
section Cp
variable {μ μ' μ'' : ab_M} {d : Nat} {S : SF} {N : NF} {A cr ci cb : Nat} {X : Rsv} {nr ni nu us it : Nat} {ty : Nat → Nat} {V : Nat → Nat → List It} {U : Nat → List Un}
theorem c_copyItemS {A2 cr2 ci2 cb2 us2 F i r j s : Nat} {q : It} (hm : isM A cr ci cb) (hm2 : isM A2 cr2 ci2 cb2) (dj : ∀ a, inM A2 a → ¬ inM A a) (hF : wc_ob F 8 = true) (nF : ¬ inM A F) (F3 : μ F 3 = 200000 + S 12 (ty r) j) (F5 : μ F 5 = if S 14 (ty r) j = -2 then 0 else 200000 + S 14 (ty r) j) (kr : 0 ≤ S 12 (ty r) j ∧ S 12 (ty r) j ≤ 12) (s14 : S 14 (ty r) j = 9 → S 11 (ty r) j = 3)
    (cm : CM X S μ A cr ci cb nr ty V U ni nu us) (hr : r < nr) (hj : j < fCt S (ty r)) (my : 2 ≤ S 11 (ty r) j) (hs : s = bsF S ty r + j) (hn : ni < ci) (hi : i < ci2) (iq : cIt μ A2 us2 (fSo (S 12 (ty r) j)) (fKs (S 11 (ty r) j) (S 14 (ty r) j)) i q) (qh : q.2.2.2.2 ≠ hole) (u2 : us2 ≤ cb2) (hu : us + q.2.1.length + q.2.2.2.1.length ≤ cb) (c1 : S 14 (ty r) j ≠ 9 → q.2.1 = []) (c2 : S 12 (ty r) j ≠ 9 → S 12 (ty r) j ≠ 10 → q.2.2.2.1 = []) (h12 : S 12 (ty r) j ≠ 12) :
    R3 (ab_run wc (d + 2) 384 0 [(2, 1), (2, A), (0, s), (2, A2), (0, i), (2, F), (3, 0)] [] μ) (fun μ' => CM X S μ' A cr ci cb nr ty (upV V r j (V r j ++ [(q.1, q.2.1, q.2.2.1, q.2.2.2.1, 0)])) U (ni + 1) nu (us + q.2.1.length + q.2.2.2.1.length) ∧ frM A μ μ') := sorry
end Cp
end
section
section Cp
variable {μ μ' μ'' : ab_M} {d : Nat} {S : SF} {N : NF} {A cr ci cb : Nat} {X : Rsv} {nr ni nu us it : Nat} {ty : Nat → Nat} {V : Nat → Nat → List It} {U : Nat → List Un}
theorem c_appendI {r j s : Nat} (hm : isM A cr ci cb) (hr : r < nr) (hj : j < fCt S (ty r)) (my : 2 ≤ S 11 (ty r) j) (hs : s = bsF S ty r + j) (hc : CM X S μ A cr ci cb nr ty V U ni nu us) (e : (ab_run wc (d + 1) 611 0 [(2, A), (0, s), (0, it)] [] μ) = some ((3, 0), μ')) :
    itm μ' A s (V r j).length = it ∧ (∀ f, itF f → f ≠ 22 → ∀ i, μ' (msA A f) i = μ (msA A f) i) ∧ (∀ f, slF f → ∀ i, i ≠ s → μ' (msA A f) i = μ (msA A f) i) := sorry
end Cp
end
section
section Cp
variable {μ μ' μ'' : ab_M} {d : Nat} {S : SF} {N : NF} {A cr ci cb : Nat} {X : Rsv} {nr ni nu us it : Nat} {ty : Nat → Nat} {V : Nat → Nat → List It} {U : Nat → List Un}
theorem itm_k {s n P : Nat} (h14 : μ' (msA A 14) s = μ (msA A 14) s) (h22 : ∀ i, i < n → μ' (msA A 22) i = μ (msA A 22) i) (hb : ∀ p, p < P → ∃ i : Nat, i < n ∧ itm μ A s p = i) : ∀ p, p ≤ P → itm μ' A s p = itm μ A s p := sorry
theorem CM.itl {r j s : Nat} (cm : CM X S μ A cr ci cb nr ty V U ni nu us) (hr : r < nr) (hj : j < fCt S (ty r)) (my : 2 ≤ S 11 (ty r) j) (hs : s = bsF S ty r + j) : ∀ p, p < (V r j).length → ∃ i : Nat, i < ni ∧ itm μ A s p = i := sorry
end Cp
end
section
section Hp
variable {μ μ' : ab_M} {A cr ci cb : Nat} {S : SF} {X : Rsv} {nr ni nu us us' r : Nat} {ty : Nat → Nat} {V : Nat → Nat → List It} {U : Nat → List Un} {t : Un}
theorem CM.unApp (h : CM X S μ A cr ci cb nr ty V U ni nu us) (hr : r < nr) (hn : nu < ci) (hu : us ≤ us') (hu2 : us' ≤ cb) : ∃ c : List Nat, cUn μ A us nu r (U r) c ∧ ∀ μ' : ab_M,
    (μ' A 3 = μ A 3 ∧ μ' A 8 = μ A 8 ∧ μ' A 17 = μ A 17 ∧ μ' A 26 = ((nu + 1 : Nat) : Int) ∧ μ' A 33 = us') → (μ' (msA A 7) r = nu ∧ (μ' (msA A 6) r = if U r = [] then (nu : Int) else μ (msA A 6) r) ∧ μ' (msA A 31) nu = -1) → (μ' (msA A 27) nu = t.1 ∧ μ' (msA A 28) nu = t.2.1 ∧ cMt μ' A us' 29 30 nu t.2.2) →
    (∀ x ∈ c, μ' (msA A 31) x = if (x : Int) = nx c (c.length - 1) then (nu : Int) else μ (msA A 31) x) → (∀ x, x < nu → x ∉ c → μ' (msA A 31) x = μ (msA A 31) x) → (∀ x, x < nu → ∀ f, 27 ≤ f → f < 31 → μ' (msA A f) x = μ (msA A f) x) → (∀ x, x < us → μ' (msA A 32) x = μ (msA A 32) x) → (∀ f, itF f ∨ slF f ∨ f = 4 ∨ f = 5 → ∀ x, μ' (msA A f) x = μ (msA A f) x) → (∀ x, x ≠ r → μ' (msA A 6) x = μ (msA A 6) x ∧ μ' (msA A 7) x = μ (msA A 7) x) →
    CM X S μ' A cr ci cb nr ty V (upL U r (U r ++ [t])) ni (nu + 1) us' := sorry
end Hp
end
section
section Hp
variable {μ μ' : ab_M} {A cr ci cb : Nat} {d : Nat}
def unM (μ : ab_M) (A nu us n a o : Nat) (num wire : Int) : ab_M := ab_up (ab_up (ab_up (ab_up (ab_cp (ab_up (ab_up (ab_up μ A 26 ((nu + 1 : Nat) : Int)) (msA A 27) nu num) (msA A 28) nu wire) a o (msA A 32) us n) A 33 ((us + n : Nat) : Int)) (msA A 29) nu us) (msA A 30) nu n) (msA A 31) nu (-1)
theorem mi {f : Nat} (g : Nat) (hg : msO g ≠ 0) : (msA A f = msA A g) = (f = g) := sorry
theorem unM_ev {nu us n a o f x : Nat} {num wire : Int} (hf : msO f ≠ 0) : unM μ A nu us n a o num wire (msA A f) x = if f = 31 ∧ x = nu then -1 else if f = 30 ∧ x = nu then (n : Int) else if f = 29 ∧ x = nu then (us : Int) else if f = 32 ∧ us ≤ x ∧ x < us + n then (ab_up (ab_up (ab_up μ A 26 ((nu + 1 : Nat) : Int)) (msA A 27) nu num) (msA A 28) nu wire) a (o + (x - us)) else if f = 28 ∧ x = nu then wire else if f = 27 ∧ x = nu then num else μ (msA A f) x := sorry
end Hp
end
section
section Hp
variable {μ μ' : ab_M} {A cr ci cb : Nat} {d : Nat} {S : SF} {X : Rsv} {nr ni nu us r : Nat} {ty : Nat → Nat} {V : Nat → Nat → List It} {U : Nat → List Un}
theorem c_unknown0 {a o la : Nat} {l : List Int} {num wire : Int} (hm : isM A cr ci cb) (hr : r < nr) (hn : nu < ci) (ha : wc_ar a = (4, la)) (na : ¬ inM A a) (hl : o + l.length ≤ la) (hb : cBy μ a o l) (hu : us + l.length ≤ cb) (cm : CM X S μ A cr ci cb nr ty V U ni nu us) :
    (ab_run wc (d + 2) 618 0 [(2, A), (0, r), (0, num), (0, wire), (2, a), (0, o), (0, (l.length)), (3, 0)] [] μ) = (if unM μ A nu us l.length a o num wire (msA A 6) r < 0 then some ((3, 0), ab_up (ab_up (unM μ A nu us l.length a o num wire) (msA A 6) r nu) (msA A 7) r nu) else (if 0 ≤ unM μ A nu us l.length a o num wire (msA A 7) r ∧ unM μ A nu us l.length a o num wire (msA A 7) r < (ci : Int) then some ((3, 0), ab_up (ab_up (unM μ A nu us l.length a o num wire) (msA A 31) (unM μ A nu us l.length a o num wire (msA A 7) r).toNat nu) (msA A 7) r nu) else none)) := sorry
end Hp
end
section
section Hp
variable {μ μ' : ab_M} {A cr ci cb : Nat} {d : Nat} {S : SF} {X : Rsv} {nr ni nu us r : Nat} {ty : Nat → Nat} {V : Nat → Nat → List It} {U : Nat → List Un}
theorem unM_A {nu us n a o i : Nat} {num wire : Int} : unM μ A nu us n a o num wire A i = if i = 33 then ((us + n : Nat) : Int) else if i = 26 then ((nu + 1 : Nat) : Int) else μ A i := sorry
theorem unM_o {nu us n a o b i : Nat} {num wire : Int} (h : ¬ inM A b) : unM μ A nu us n a o num wire b i = μ b i := sorry
theorem unM_t {nu us a o : Nat} {l : List Int} {num wire : Int} (na : ¬ inM A a) (hb : cBy μ a o l) : cMt (unM μ A nu us l.length a o num wire) A (us + l.length) 29 30 nu l := sorry
end Hp
end
section
section Hp
variable {μ μ' : ab_M} {A cr ci cb : Nat} {d : Nat} {S : SF} {X : Rsv} {nr ni nu us r : Nat} {ty : Nat → Nat} {V : Nat → Nat → List It} {U : Nat → List Un}
theorem c_unknown {a o la : Nat} {l : List Int} {num wire : Int} (hm : isM A cr ci cb) (hr : r < nr) (hn : nu < ci) (ha : wc_ar a = (4, la)) (na : ¬ inM A a) (hl : o + l.length ≤ la) (hb : cBy μ a o l) (hu : us + l.length ≤ cb) (cm : CM X S μ A cr ci cb nr ty V U ni nu us) :
    R3 (ab_run wc (d + 2) 618 0 [(2, A), (0, r), (0, num), (0, wire), (2, a), (0, o), (0, (l.length)), (3, 0)] [] μ) (fun μ' => CM X S μ' A cr ci cb nr ty V (upL U r (U r ++ [(num, wire, l)])) ni (nu + 1) (us + l.length) ∧ frM A μ μ' ∧ ∀ n1 n2, kpI A n1 n2 μ μ') := sorry
end Hp
end
section
section Cs
variable {μ μ' μ'' : ab_M} {S : SF} {N : NF} {A cr ci cb f c r j : Nat} {X : Rsv} {h g g' : He} {w w' v v' b b' : Int}
abbrev Ms := ab_M × He × Nat × Nat × Nat
def CMs (X : Rsv) (S : SF) (A cr ci cb : Nat) (s : Ms) : Prop := CM X S s.1 A cr ci cb s.2.1.1 s.2.1.2.1 s.2.1.2.2.1 s.2.1.2.2.2 s.2.2.1 s.2.2.2.1 s.2.2.2.2
def smR (g g' : He) (a : Nat) : Prop := g'.2.1 a = g.2.1 a ∧ g'.2.2.1 a = g.2.2.1 a ∧ g'.2.2.2 a = g.2.2.2 a
def kpC (S : SF) (A c : Nat) (s s' : Ms) : Prop := ∀ a, a < c → ∀ j, j < fCt S (s.2.1.2.1 a) → 2 ≤ S 11 (s.2.1.2.1 a) j → ∀ p, p < (s.2.1.2.2.1 a j).length → itm s'.1 A (bsF S s.2.1.2.1 a + j) p = itm s.1 A (bsF S s.2.1.2.1 a + j) p
def cpG (S : SF) (A c : Nat) (w v b : Int) (s s' : Ms) : Prop := frM A s.1 s'.1 ∧ s.2.1.1 ≤ s'.2.1.1 ∧ (∀ a, a < c → smR s.2.1 s'.2.1 a) ∧ kpC S A c s s' ∧ ((s'.2.1.1 : Int) ≤ s.2.1.1 + w ∧ (s'.2.2.1 : Int) ≤ s.2.2.1 + v ∧ (s'.2.2.2.1 : Int) ≤ s.2.2.2.1 + v ∧ (s'.2.2.2.2 : Int) ≤ s.2.2.2.2 + b) ∧ s.2.2.1 ≤ s'.2.2.1
theorem smR.trans {g'' : He} {a : Nat} (x : smR g g' a) (y : smR g' g'' a) : smR g g'' a := sorry
theorem cpG.trans {s s' s'' : Ms} (x : cpG S A c w v b s s') (y : cpG S A c w' v' b' s' s'') : cpG S A c (w + w') (v + v') (b + b') s s'' := sorry
theorem kpC.of {s s' : Ms} (cm : CMs X S A cr ci cb s) (hc : c ≤ s.2.1.1) (k : kpI A s.2.2.1 (bsF S s.2.1.2.1 c) s.1 s'.1) : kpC S A c s s' := sorry
theorem cpG.le {s s' : Ms} (x : cpG S A c w v b s s') (h0 : w ≤ w') (h1 : v ≤ v') (h2 : b ≤ b') : cpG S A c w' v' b' s s' := sorry
theorem cpG.low {c' : Nat} {s s' : Ms} (x : cpG S A c w v b s s') (h1 : c' ≤ c) : cpG S A c' w v b s s' := sorry
def rW0 (S : SF) (g : He) (a : Nat) : Prop := ((g.2.1 a : Int) < S 0 0 0 ∧ S 2 (g.2.1 a) 0 = 1) ∧ ∀ j, j < fCt S (g.2.1 a) → (S 11 (g.2.1 a) j < 2 → (g.2.2.1 a j).length ≤ 1) ∧ (∀ t ∈ g.2.2.1 a j, ((S 11 (g.2.1 a) j ≠ 3 → t.1 = 0 ∧ t.2.1 = []) ∧ byt t.2.1 ∧ lng t.1) ∧ itC S (g.2.1 a) j t ∧ (S 12 (g.2.1 a) j = 12 → a < t.2.2.2.2 ∧ t.2.2.2.2 < g.1)) ∧ (S 11 (g.2.1 a) j = 3 → srt (S 14 (g.2.1 a) j) (g.2.2.1 a j))
def unOK (u : Un) : Prop := byt u.2.2 ∧ (0 ≤ u.1 ∧ u.1 < 536870912) ∧ 0 ≤ u.2.1 ∧ u.2.1 ≤ 7
def rNm (S : SF) (g : He) (a : Nat) : Prop := (∀ j, j < fCt S (g.2.1 a) → ∀ q ∈ g.2.2.1 a j, lng q.2.2.1 ∧ byt q.2.2.2.1) ∧ ∀ u ∈ g.2.2.2 a, unOK u
def hNm (S : SF) (h : He) : Prop := ∀ r, r < h.1 → rNm S h r
def rWl (S : SF) (g : He) (a : Nat) : Prop := rW0 S g a ∧ rNm S g a
theorem rW0.to {a : Nat} (w : rW0 S g a) (s : smR g g' a) (n : g.1 ≤ g'.1) : rW0 S g' a := sorry
theorem rWl.to {a : Nat} (w : rWl S g a) (s : smR g g' a) (n : g.1 ≤ g'.1) : rWl S g' a := sorry
theorem hWell.of (h0 : 0 < g.1) (w : ∀ a, a < g.1 → rWl S g a) : hWell S g ∧ hDn S g (fun _ => true) ∧ hNm S g := sorry
theorem hWell.at {al : Nat → Bool} (hg : hG S h) (ht : hTy S h) (hc : hCn S h) (dn : hDn S h al) (hn : hNm S h) (hr : r < h.1) (ha : al r = true) : rWl S h r := sorry
theorem itsE.al {R : Nat → Nat → Prop} {rc : Bool} {P Q : It → Prop} (pq : ∀ t t', t.1 = t'.1 ∧ t.2.1 = t'.2.1 ∧ t.2.2.1 = t'.2.2.1 ∧ t.2.2.2.1 = t'.2.2.2.1 → (rc = true → R t.2.2.2.2 t'.2.2.2.2) → P t → Q t') : ∀ {L L' : List It}, itsE R rc L L' → (∀ t ∈ L, P t) → ∀ t ∈ L', Q t := sorry
theorem itsE.srt {R : Nat → Nat → Prop} {rc : Bool} {k : Int} : ∀ {L L' : List It}, itsE R rc L L' → srt k L → srt k L' := sorry
theorem rW0.copy {R : Nat → Nat → Prop} {a : Nat} (w : rW0 S h r) (t : g.2.1 a = h.2.1 r) (hR : ∀ x y, R x y → a < y ∧ y < g.1) (e : ∀ j, j < fCt S (h.2.1 r) → itsE R (decide (S 12 (h.2.1 r) j = 12)) (h.2.2.1 r j) (g.2.2.1 a j) ∧ (S 12 (h.2.1 r) j ≠ 12 → ∀ t ∈ g.2.2.1 a j, t.2.2.2.2 = 0)) : rW0 S g a := sorry
theorem rWl.copy {R : Nat → Nat → Prop} {a : Nat} (w : rWl S h r) (t : g.2.1 a = h.2.1 r) (eu : g.2.2.2 a = h.2.2.2 r) (hR : ∀ x y, R x y → a < y ∧ y < g.1) (e : ∀ j, j < fCt S (h.2.1 r) → itsE R (decide (S 12 (h.2.1 r) j = 12)) (h.2.2.1 r j) (g.2.2.1 a j) ∧ (S 12 (h.2.1 r) j ≠ 12 → ∀ t ∈ g.2.2.1 a j, t.2.2.2.2 = 0)) : rWl S g a := sorry
def pU (S : SF) (g : He) (lo : Nat) : Prop := ∃ pr : Nat → Nat × Nat × Nat, (∀ a, lo ≤ a → a < g.1 → ∀ j, j < fCt S (g.2.1 a) → S 12 (g.2.1 a) j = 12 → ∀ (p : Nat) (t : It), (g.2.2.1 a j)[p]? = some t → pr t.2.2.2.2 = (a, j, p)) ∧
  ∀ x, lo < x → x < g.1 → (lo ≤ (pr x).1 ∧ (pr x).1 < x) ∧ (pr x).2.1 < fCt S (g.2.1 (pr x).1) ∧ S 12 (g.2.1 (pr x).1) (pr x).2.1 = 12 ∧ ∃ t, (g.2.2.1 (pr x).1 (pr x).2.1)[(pr x).2.2]? = some t ∧ t.2.2.2.2 = x
theorem pU.to {lo : Nat} (p : pU S g lo) (n : g'.1 = g.1) (s : ∀ a, lo ≤ a → a < g.1 → g'.2.1 a = g.2.1 a ∧ g'.2.2.1 a = g.2.2.1 a) : pU S g' lo := sorry
theorem pU.step {n : Nat} {t' : It} (p : pU S g c) (en : n = g.1) (cn : c < n) (old : ∀ a, c ≤ a → a < n → ∀ i, i < fCt S (g.2.1 a) → S 12 (g.2.1 a) i = 12 → ∀ t ∈ g.2.2.1 a i, t.2.2.2.2 < n) (ety : g'.2.1 c = g.2.1 c) (hi : ∀ a, c < a → a < n → smR g g' a) (eV : ∀ i, i ≠ j → g'.2.2.1 c i = g.2.2.1 c i) (ej : g'.2.2.1 c j = g.2.2.1 c j ++ [t']) (jf : j < fCt S (g.2.1 c)) (n12 : S 12 (g.2.1 c) j ≠ 12 → g'.1 = n) (y12 : S 12 (g.2.1 c) j = 12 → t'.2.2.2.2 = n ∧ n < g'.1 ∧ pU S g' n) (nw : ∀ a, n ≤ a → a < g'.1 → rWl S g' a) : pU S g' c := sorry
theorem cpT.rg {g : He} {lo x y : Nat} (e : cpT S h g lo f x y) : lo ≤ y ∧ y < g.1 := sorry
def cpN (X : Rsv) (S : SF) (h : He) (A cr ci cb f c r : Nat) (s0 : Ms) (W : Nat → List It) (v b : Int) (s : Ms) : Prop :=
  CMs X S A cr ci cb s ∧ cpG S A c (v + 1) v b s0 s ∧ c < s.2.1.1 ∧ s.2.1.2.1 c = h.2.1 r ∧ s.2.1.2.2.2 c = [] ∧ (∀ j, j < fCt S (h.2.1 r) → itsE (cpT S h s.2.1 (c + 1) f) (decide (S 12 (h.2.1 r) j = 12)) (W j) (s.2.1.2.2.1 c j) ∧ (S 12 (h.2.1 r) j ≠ 12 → ∀ t ∈ s.2.1.2.2.1 c j, t.2.2.2.2 = 0)) ∧ (∀ a, c < a → a < s.2.1.1 → rWl S s.2.1 a) ∧ pU S s.2.1 c
theorem cpN.step {s0 s s' : Ms} {W : Nat → List It} {u t' : It} {dv db : Int} (n : cpN X S h A cr ci cb f c r s0 W v b s) (cm : CMs X S A cr ci cb s') (gg : cpG S A c dv dv db s s') (ety : s'.2.1.2.1 c = s.2.1.2.1 c) (eU : s'.2.1.2.2.2 c = s.2.1.2.2.2 c) (hi : ∀ a, c < a → a < s.2.1.1 → smR s.2.1 s'.2.1 a) (eV : ∀ i, i ≠ j → s'.2.1.2.2.1 c i = s.2.1.2.2.1 c i) (ej : s'.2.1.2.2.1 c j = s.2.1.2.2.1 c j ++ [t']) (e4 : u.1 = t'.1 ∧ u.2.1 = t'.2.1 ∧ u.2.2.1 = t'.2.2.1 ∧ u.2.2.2.1 = t'.2.2.2.1) (e5 : S 12 (h.2.1 r) j = 12 → cpT S h s'.2.1 (c + 1) f u.2.2.2.2 t'.2.2.2.2) (e6 : S 12 (h.2.1 r) j ≠ 12 → t'.2.2.2.2 = 0) (nw : ∀ a, s.2.1.1 ≤ a → a < s'.2.1.1 → rWl S s'.2.1 a) (jf : j < fCt S (h.2.1 r)) (n12 : S 12 (h.2.1 r) j ≠ 12 → s'.2.1.1 = s.2.1.1) (y12 : S 12 (h.2.1 r) j = 12 → t'.2.2.2.2 = s.2.1.1 ∧ s.2.1.1 < s'.2.1.1 ∧ pU S s'.2.1 s.2.1.1) :
    cpN X S h A cr ci cb f c r s0 (upL W j (W j ++ [u])) (v + dv) (b + db) s' := sorry
end Cs
end
section
section Cs
variable {μ μ' μ'' μ0 : ab_M} {d : Nat} {S : SF} {N : NF} {A cr ci cb f c r j A2 cr2 ci2 cb2 us2 : Nat} {X : Rsv} {h g g' : He} {v v' b b' : Int}
theorem c_cp255 {L0 : List Un} {ch : List Nat} (hm : isM A cr ci cb) (hm2 : isM A2 cr2 ci2 cb2) (dj : ∀ a, inM A2 a → ¬ inM A a) (u2 : us2 ≤ cb2) (Fu : ∀ (k i : Nat) (t : Un), ch[k]? = some i → L0[k]? = some t → μ0 (msA A2 27) i = t.1 ∧ μ0 (msA A2 28) i = t.2.1 ∧ cMt μ0 A2 us2 29 30 i t.2.2) (F31 : ∀ (k i : Nat), ch[k]? = some i → μ0 (msA A2 31) i = nx ch (k + 1)) (Fc : ∀ i ∈ ch, i < ci2) :
    ∀ (L : List Un) (p : Nat) (s : Ms), frM A μ0 s.1 → (∀ q : Nat, L0[p + q]? = L[q]?) → p + L.length = ch.length → CMs X S A cr ci cb s → c < s.2.1.1 → s.2.2.2.1 + L.length ≤ ci → (s.2.2.2.2 : Int) + byU L ≤ cb → ∃ s' : Ms, (ab_run wc (d + 3) 385 255 [(3, 0), (2, A), (2, A2), (3, 0), (0, c), (3, 0), (0, (nx ch p)), (3, 0), (3, 0), (3, 0), (3, 0)] [] s.1) = some ((0, (c : Int)), s'.1) ∧ CMs X S A cr ci cb s' ∧ cpG S A c 0 L.length (byU L) s s' ∧ s'.2.1.1 = s.2.1.1 ∧ s'.2.1.2.1 = s.2.1.2.1 ∧ s'.2.1.2.2.1 = s.2.1.2.2.1 ∧ s'.2.1.2.2.2 = upL s.2.1.2.2.2 c (s.2.1.2.2.2 c ++ L) := sorry
end Cs
end
section
section Cp
variable {μ μ' μ'' : ab_M} {d : Nat} {S : SF} {N : NF} {A cr ci cb : Nat} {X : Rsv} {nr ni nu us it : Nat} {ty : Nat → Nat} {V : Nat → Nat → List It} {U : Nat → List Un}
theorem c_appendO {r j s a i : Nat} (hm : isM A cr ci cb) (hr : r < nr) (hj : j < fCt S (ty r)) (my : 2 ≤ S 11 (ty r) j) (hs : s = bsF S ty r + j) (hc : CM X S μ A cr ci cb nr ty V U ni nu us) (e : (ab_run wc (d + 1) 611 0 [(2, A), (0, s), (0, it)] [] μ) = some ((3, 0), μ')) (ha : a < nr) (hi : i < fCt S (ty a)) (m2 : 2 ≤ S 11 (ty a) i) (ne : ¬ (a = r ∧ i = j)) :
    ∀ p, p < (V a i).length → itm μ' A (bsF S ty a + i) p = itm μ A (bsF S ty a + i) p := sorry
end Cp
end
section
section Cs
variable {μ μ' μ'' μ0 : ab_M} {D : Nat} {S : SF} {N : NF} {A cr ci cb f c r j k bs A2 cr2 ci2 cb2 ni2 nu2 us2 : Nat} {X : Rsv} {h : He} {v b : Int}
def cpC (S : SF) (N : NF) (A k bs A2 cr2 ci2 cb2 : Nat) (h : He) (ni2 nu2 us2 : Nat) (μ : ab_M) : Prop := cMS μ A2 k bs S N ∧ CM (fun _ => none) S μ A2 cr2 ci2 cb2 h.1 h.2.1 h.2.2.1 h.2.2.2 ni2 nu2 us2 ∧ cMS μ A k bs S N
theorem cpC.fr (x : cpC S N A k bs A2 cr2 ci2 cb2 h ni2 nu2 us2 μ) (hm : isM A cr ci cb) (dj : ∀ a, inM A2 a → ¬ inM A a) (g : frM A μ μ') : cpC S N A k bs A2 cr2 ci2 cb2 h ni2 nu2 us2 μ' := sorry
abbrev mzV (S : SF) (h : He) (f r : Nat) : Int := mz S h (fun r => loV S (h.2.1 r) (h.2.2.1 r) (h.2.2.2 r)) f r
abbrev mzB (S : SF) (h : He) (f r : Nat) : Int := mz S h (fun r => loB S (h.2.1 r) (h.2.2.1 r) (h.2.2.2 r)) f r
def PC (X : Rsv) (S : SF) (N : NF) (A cr ci cb k bs A2 cr2 ci2 cb2 : Nat) (h : He) (ni2 nu2 us2 D f r : Nat) : Prop := ∀ s : Ms, CMs X S A cr ci cb s → cpC S N A k bs A2 cr2 ci2 cb2 h ni2 nu2 us2 s.1 → ((s.2.1.1 : Int) + 1 + mzV S h f r ≤ cr ∧ (s.2.2.1 : Int) + mzV S h f r ≤ ci ∧ (s.2.2.2.1 : Int) + mzV S h f r ≤ ci ∧ (s.2.2.2.2 : Int) + mzB S h f r ≤ cb) →
  ∃ s' : Ms, (ab_run wc D 385 0 [(2, 1), (2, A), (2, A2), (0, r), (3, 0), (3, 0), (3, 0), (3, 0), (3, 0), (3, 0), (3, 0)] [] s.1) = some ((0, (s.2.1.1 : Int)), s'.1) ∧ CMs X S A cr ci cb s' ∧ cpG S A s.2.1.1 (1 + mzV S h f r) (mzV S h f r) (mzB S h f r) s s' ∧ s.2.1.1 < s'.2.1.1 ∧ cpT S h s'.2.1 s.2.1.1 f r s.2.1.1 ∧ (∀ a, s.2.1.1 ≤ a → a < s'.2.1.1 → rWl S s'.2.1 a) ∧ pU S s'.2.1 s.2.1.1
theorem upV_r {V : Nat → Nat → List It} {l : List It} {a : Nat} (h : a ≠ r) : upV V r j l a = V a := sorry
theorem upV_j {V : Nat → Nat → List It} {l : List It} {i : Nat} (h : i ≠ j) : upV V r j l r i = V r i := sorry
theorem c_cpItemN {u : It} {i : Nat} {s0 s : Ms} {W : Nat → List It} (hm : isM A cr ci cb) (hm2 : isM A2 cr2 ci2 cb2) (dj : ∀ a, inM A2 a → ¬ inM A a) (cx : cpC S N A k bs A2 cr2 ci2 cb2 h ni2 nu2 us2 s.1) (n : cpN X S h A cr ci cb f c r s0 W v b s) (hr : r < h.1) (hj : j < fCt S (h.2.1 r)) (my : 2 ≤ S 11 (h.2.1 r) j)
    (iq : cIt s.1 A2 us2 (fSo (S 12 (h.2.1 r) j)) (fKs (S 11 (h.2.1 r) j) (S 14 (h.2.1 r) j)) i u) (hi : i < ci2) (uc : itC S (h.2.1 r) j u) (uh : u.2.2.2.2 ≠ hole) (rm : (s.2.1.1 : Int) + (if S 12 (h.2.1 r) j = 12 then 1 + mzV S h f u.2.2.2.2 else 0) ≤ cr ∧ (s.2.2.1 : Int) + 1 + (if S 12 (h.2.1 r) j = 12 then mzV S h f u.2.2.2.2 else 0) ≤ ci ∧ (s.2.2.2.1 : Int) + (if S 12 (h.2.1 r) j = 12 then mzV S h f u.2.2.2.2 else 0) ≤ ci ∧ (s.2.2.2.2 : Int) + u.2.1.length + u.2.2.2.1.length + (if S 12 (h.2.1 r) j = 12 then mzB S h f u.2.2.2.2 else 0) ≤ cb) (vn : 0 ≤ mzV S h f u.2.2.2.2) (bn : 0 ≤ mzB S h f u.2.2.2.2)
    (pc : S 12 (h.2.1 r) j = 12 → PC X S N A cr ci cb k bs A2 cr2 ci2 cb2 h ni2 nu2 us2 (D + 1) f u.2.2.2.2) :
    ∃ s' : Ms, (ab_run wc (D + 2) 384 0 [(2, 1), (2, A), (0, (((bsF S s.2.1.2.1 c + j : Nat) : Int))), (2, A2), (0, i), (2, (fdA bs (h.2.1 r) j)), (3, 0)] [] s.1) = some ((3, 0), s'.1) ∧ frM A s.1 s'.1 ∧ cpN X S h A cr ci cb f c r s0 (upL W j (W j ++ [u])) (v + (1 + (if S 12 (h.2.1 r) j = 12 then mzV S h f u.2.2.2.2 else 0))) (b + (u.2.1.length + u.2.2.2.1.length + (if S 12 (h.2.1 r) j = 12 then mzB S h f u.2.2.2.2 else 0))) s' := sorry
end Cs
end
section
section Cs
variable {μ μ' μ'' μ0 : ab_M} {D : Nat} {S : SF} {N : NF} {A cr ci cb f c r j k bs A2 cr2 ci2 cb2 ni2 nu2 us2 : Nat} {X : Rsv} {h : He} {v b : Int}
def rmK (s0 : Ms) (cr ci cb : Nat) (tv tb : Int) : Prop := (s0.2.1.1 : Int) + 1 + tv ≤ cr ∧ (s0.2.2.1 : Int) + tv ≤ ci ∧ (s0.2.2.2.1 : Int) + tv ≤ ci ∧ (s0.2.2.2.2 : Int) + tb ≤ cb
theorem mzV_0 {f r : Nat} : 0 ≤ mzV S h f r := sorry
theorem sumN_00 {F : Nat → Int} : ∀ n, (∀ i, i < n → 0 ≤ F i) → 0 ≤ sumN F n := sorry
theorem mzB_0 {f r : Nat} : 0 ≤ mzB S h f r := sorry
theorem sumI_0 {F : Nat → Int} (e : ∀ x, 0 ≤ F x) : ∀ L : List It, 0 ≤ sumI F L := sorry
theorem cpN.bsq {s0 s : Ms} {W : Nat → List It} (n : cpN X S h A cr ci cb f c r s0 W v b s) : bsF S s.2.1.2.1 c = bsF S s0.2.1.2.1 c := sorry
theorem c_cp99 {L0 : List It} {ch : List Nat} {s0 : Ms} {tv tb ta : Int} (hm : isM A cr ci cb) (hm2 : isM A2 cr2 ci2 cb2) (dj : ∀ a, inM A2 a → ¬ inM A a) (hr : r < h.1) (hj : j < fCt S (h.2.1 r)) (my : 2 ≤ S 11 (h.2.1 r) j) (rm : rmK s0 cr ci cb tv tb) (c0 : c = s0.2.1.1) (j1 : j < 100)
    (Fq : ∀ (k i : Nat) (t : It), ch[k]? = some i → L0[k]? = some t → cIt μ0 A2 us2 (fSo (S 12 (h.2.1 r) j)) (fKs (S 11 (h.2.1 r) j) (S 14 (h.2.1 r) j)) i t) (F22 : ∀ (k i : Nat), ch[k]? = some i → μ0 (msA A2 22) i = nx ch (k + 1)) (Fc : ∀ i ∈ ch, i < ci2) (Fi : ∀ t ∈ L0, itC S (h.2.1 r) j t ∧ t.2.2.2.2 ≠ hole ∧ (S 12 (h.2.1 r) j = 12 → PC X S N A cr ci cb k bs A2 cr2 ci2 cb2 h ni2 nu2 us2 (D + 1) f t.2.2.2.2)) :
    ∀ (L : List It) (p : Nat) (s : Ms) (W : Nat → List It) (v b : Int), frM A μ0 s.1 → cpC S N A k bs A2 cr2 ci2 cb2 h ni2 nu2 us2 s.1 → (∀ q : Nat, L0[p + q]? = L[q]?) → p + L.length = ch.length → cpN X S h A cr ci cb f c r s0 W v b s → v + (L.length + (if S 12 (h.2.1 r) j = 12 then sumI (mzV S h f) L else 0)) ≤ tv → b + (byV L + (if S 12 (h.2.1 r) j = 12 then sumI (mzB S h f) L else 0)) ≤ tb →
    ∃ s' : Ms, (ab_run wc (D + 3) 385 99 [(2, 1), (2, A), (2, A2), (0, r), (0, c), (2, ta), (0, j), (2, (fdA bs (h.2.1 r) j)), (3, 0), (0, (((bsF S s0.2.1.2.1 c + j : Nat) : Int))), (0, (nx ch p))] [] s.1) = (ab_run wc (D + 3) 385 24 [(2, 1), (2, A), (2, A2), (0, r), (0, c), (2, ta), (0, (((j + 1 : Nat) : Int))), (3, 0), (3, 0), (3, 0), (3, 0)] [] s'.1) ∧ frM A μ0 s'.1 ∧ cpC S N A k bs A2 cr2 ci2 cb2 h ni2 nu2 us2 s'.1 ∧ cpN X S h A cr ci cb f c r s0 (upL W j (W j ++ L)) (v + (L.length + (if S 12 (h.2.1 r) j = 12 then sumI (mzV S h f) L else 0))) (b + (byV L + (if S 12 (h.2.1 r) j = 12 then sumI (mzB S h f) L else 0))) s' := sorry
end Cs
end
section
section Cs
variable {μ μ' μ'' μ0 : ab_M} {D : Nat} {S : SF} {N : NF} {A cr ci cb f c r j k bs A2 cr2 ci2 cb2 ni2 nu2 us2 : Nat} {X : Rsv} {h : He} {v b : Int}
def coM (μ : ab_M) (A sl : Nat) (x : Int) : ab_M := ab_up (ab_up μ (msA A 9) sl 1) (msA A 11) sl x
theorem coM_f {sl f i : Nat} {x : Int} (hf : msO f ≠ 0) (h1 : slF f → i ≠ sl) : coM μ A sl x (msA A f) i = μ (msA A f) i := sorry
theorem coM_A {sl i : Nat} {x : Int} : coM μ A sl x A i = μ A i := sorry
theorem coM_o {sl a i : Nat} {x : Int} (ha : ¬ inM A a) : coM μ A sl x a i = μ a i := sorry
theorem coM_9 {sl : Nat} {x : Int} : coM μ A sl x (msA A 9) sl = 1 := sorry
theorem coM_11 {sl : Nat} {x : Int} : coM μ A sl x (msA A 11) sl = x := sorry
theorem coM_fr {sl : Nat} {x : Int} : frM A μ (coM μ A sl x) := sorry
theorem kpI_sl {sl ni ns : Nat} (hs : ns ≤ sl) (k : ∀ f x, msO f ≠ 0 → (slF f → x ≠ sl) → f ≠ 32 → μ' (msA A f) x = μ (msA A f) x) : kpI A ni ns μ μ' := sorry
theorem kwM_f {a o us n fa fb it f x : Nat} (oa : msO fa ≠ 0) (ob : msO fb ≠ 0) (h1 : msO f ≠ 0) (h2 : f = fa ∨ f = fb → x ≠ it) (h3 : f = 32 → x < us) : kwM μ A a o us n fa fb it (msA A f) x = μ (msA A f) x := sorry
theorem kwM_A {a o us n fa fb it i : Nat} (oa : msO fa ≠ 0) (ob : msO fb ≠ 0) (hi : i ≠ 33) : kwM μ A a o us n fa fb it A i = μ A i := sorry
theorem kwM_33 {a o us n fa fb it : Nat} (oa : msO fa ≠ 0) (ob : msO fb ≠ 0) : kwM μ A a o us n fa fb it A 33 = ((us + n : Nat) : Int) := sorry
theorem kwM_o {a o us n fa fb it x i : Nat} (hx : ¬ inM A x) : kwM μ A a o us n fa fb it x i = μ x i := sorry
theorem kwM_t {a o us fa fb it : Nat} {l : List Int} (oa : msO fa ≠ 0) (ob : msO fb ≠ 0) (n1 : msO fa ≠ msO 32) (n2 : msO fb ≠ msO 32) (n3 : msO fa ≠ msO fb) (hb : cBy μ a o l) : cMt (kwM μ A a o us l.length fa fb it) A (us + l.length) fa fb it l := sorry
theorem c_cpOneN {u : It} {s0 s : Ms} {W : Nat → List It} {ta : Int} (hm : isM A cr ci cb) (hm2 : isM A2 cr2 ci2 cb2) (dj : ∀ a, inM A2 a → ¬ inM A a) (cx : cpC S N A k bs A2 cr2 ci2 cb2 h ni2 nu2 us2 s.1) (n : cpN X S h A cr ci cb f c r s0 W v b s) (hr : r < h.1) (hj : j < fCt S (h.2.1 r)) (my : S 11 (h.2.1 r) j < 2) (hta : ta = ((tyA bs (h.2.1 r) : Nat) : Int)) (W0 : s.2.1.2.2.1 c j = [])
    (ev : h.2.2.1 r j = [u]) (uc : itC S (h.2.1 r) j u) (uh : u.2.2.2.2 ≠ hole) (rm : (s.2.1.1 : Int) + (if S 12 (h.2.1 r) j = 12 then 1 + mzV S h f u.2.2.2.2 else 0) ≤ cr ∧ (s.2.2.1 : Int) + (if S 12 (h.2.1 r) j = 12 then mzV S h f u.2.2.2.2 else 0) ≤ ci ∧ (s.2.2.2.1 : Int) + (if S 12 (h.2.1 r) j = 12 then mzV S h f u.2.2.2.2 else 0) ≤ ci ∧ (s.2.2.2.2 : Int) + u.2.1.length + u.2.2.2.1.length + (if S 12 (h.2.1 r) j = 12 then mzB S h f u.2.2.2.2 else 0) ≤ cb) (vn : 0 ≤ mzV S h f u.2.2.2.2) (bn : 0 ≤ mzB S h f u.2.2.2.2)
    (pc : S 12 (h.2.1 r) j = 12 → PC X S N A cr ci cb k bs A2 cr2 ci2 cb2 h ni2 nu2 us2 (D + 2) f u.2.2.2.2) :
    ∃ s' : Ms, (ab_run wc (D + 3) 385 24 [(2, 1), (2, A), (2, A2), (0, r), (0, c), (2, ta), (0, j), (3, 0), (3, 0), (3, 0), (3, 0)] [] s.1) = (ab_run wc (D + 3) 385 24 [(2, 1), (2, A), (2, A2), (0, r), (0, c), (2, ta), (0, (((j + 1 : Nat) : Int))), (3, 0), (3, 0), (3, 0), (3, 0)] [] s'.1) ∧ frM A s.1 s'.1 ∧ cpN X S h A cr ci cb f c r s0 (upL W j (W j ++ [u])) (v + (1 + (if S 12 (h.2.1 r) j = 12 then mzV S h f u.2.2.2.2 else 0))) (b + (u.2.1.length + u.2.2.2.1.length + (if S 12 (h.2.1 r) j = 12 then mzB S h f u.2.2.2.2 else 0))) s' := sorry
end Cs
end
section
section Cs
variable {μ μ' μ'' μ0 : ab_M} {D : Nat} {S : SF} {N : NF} {A cr ci cb f c r j k bs A2 cr2 ci2 cb2 ni2 nu2 us2 : Nat} {X : Rsv} {h : He} {v b v' b' : Int}
def cpW (h : He) (r j : Nat) : Nat → List It := fun i => if i < j then h.2.2.1 r i else []
theorem cpW_up : upL (cpW h r j) j (cpW h r j j ++ h.2.2.1 r j) = cpW h r (j + 1) := sorry
theorem cpW_j : cpW h r j j = [] := sorry
def cvF (S : SF) (h : He) (f r x : Nat) : Int := wgV (S 11 (h.2.1 r) x) (h.2.2.1 r x) + (if S 12 (h.2.1 r) x = 12 then sumI (mzV S h f) (h.2.2.1 r x) else 0)
def cbF (S : SF) (h : He) (f r x : Nat) : Int := byV (h.2.2.1 r x) + (if S 12 (h.2.1 r) x = 12 then sumI (mzB S h f) (h.2.2.1 r x) else 0)
theorem cvF_0 {x : Nat} : 0 ≤ cvF S h f r x ∧ 0 ≤ cbF S h f r x := sorry
theorem sumN_mo {F : Nat → Int} (e : ∀ i, 0 ≤ F i) {m n : Nat} (h : m ≤ n) : sumN F m ≤ sumN F n := sorry
theorem cpN.le {s0 s : Ms} {W : Nat → List It} (n : cpN X S h A cr ci cb f c r s0 W v b s) (h1 : v ≤ v') (h2 : b ≤ b') : cpN X S h A cr ci cb f c r s0 W v' b' s := sorry
theorem c_cp24 {s0 : Ms} {tv tb : Int} (hm : isM A cr ci cb) (hm2 : isM A2 cr2 ci2 cb2) (dj : ∀ a, inM A2 a → ¬ inM A a) (hr : r < h.1) (rm : rmK s0 cr ci cb tv tb) (c0 : c = s0.2.1.1) (h1000 : h.1 < hole) (wr : rWl S h r) (tv1 : sumN (cvF S h f r) (fCt S (h.2.1 r)) ≤ tv) (tb1 : sumN (cbF S h f r) (fCt S (h.2.1 r)) ≤ tb)
    (pc : ∀ D', D + 1 ≤ D' → ∀ j, j < fCt S (h.2.1 r) → S 12 (h.2.1 r) j = 12 → ∀ t ∈ h.2.2.1 r j, PC X S N A cr ci cb k bs A2 cr2 ci2 cb2 h ni2 nu2 us2 D' f t.2.2.2.2) :
    ∀ (m j : Nat) (s : Ms), j + m = fCt S (h.2.1 r) → cpC S N A k bs A2 cr2 ci2 cb2 h ni2 nu2 us2 s.1 → cpN X S h A cr ci cb f c r s0 (cpW h r j) (sumN (cvF S h f r) j) (sumN (cbF S h f r) j) s →
    ∃ s' : Ms, (ab_run wc (D + 3) 385 24 [(2, 1), (2, A), (2, A2), (0, r), (0, c), (2, (((tyA bs (h.2.1 r) : Nat) : Int))), (0, j), (3, 0), (3, 0), (3, 0), (3, 0)] [] s.1) = (ab_run wc (D + 3) 385 255 [(3, 0), (2, A), (2, A2), (3, 0), (0, c), (3, 0), (0, (s'.1 (msA A2 6) r)), (3, 0), (3, 0), (3, 0), (3, 0)] [] s'.1) ∧ cpC S N A k bs A2 cr2 ci2 cb2 h ni2 nu2 us2 s'.1 ∧ cpN X S h A cr ci cb f c r s0 (cpW h r (fCt S (h.2.1 r))) (sumN (cvF S h f r) (fCt S (h.2.1 r))) (sumN (cbF S h f r) (fCt S (h.2.1 r))) s' := sorry
end Cs
end
section
section Cs
variable {μ μ' μ'' μ0 : ab_M} {D : Nat} {S : SF} {N : NF} {A cr ci cb f c r j k bs A2 cr2 ci2 cb2 ni2 nu2 us2 : Nat} {X : Rsv} {h : He} {v b v' b' : Int}
theorem mzV_s {f r : Nat} : mzV S h (f + 1) r = sumN (cvF S h f r) (fCt S (h.2.1 r)) + (h.2.2.2 r).length := sorry
theorem mzB_s {f r : Nat} : mzB S h (f + 1) r = sumN (cbF S h f r) (fCt S (h.2.1 r)) + byU (h.2.2.2 r) := sorry
theorem c_PC {al : Nat → Bool} (hm : isM A cr ci cb) (hm2 : isM A2 cr2 ci2 cb2) (dj : ∀ a, inM A2 a → ¬ inM A a) (h1000 : h.1 < hole) (hg : hG S h) (ht : hTy S h) (hcn : hCn S h) (dn : hDn S h al) (hn : hNm S h) : ∀ (f D r : Nat), 2 * f + 6 ≤ D → r < h.1 → al r = true → h.1 ≤ r + f → PC X S N A cr ci cb k bs A2 cr2 ci2 cb2 h ni2 nu2 us2 D f r := sorry
def cutH (S : SF) (h : He) : He := (h.1, h.2.1, fun r j => if j < fCt S (h.2.1 r) then h.2.2.1 r j else [], h.2.2.2)
def cutd (S : SF) (h : He) : Prop := ∀ r j, fCt S (h.2.1 r) ≤ j → h.2.2.1 r j = []
theorem cutH_d {g : He} : cutd S (cutH S g) := sorry
theorem cutH_j {g : He} {r j : Nat} (hj : j < fCt S (g.2.1 r)) : (cutH S g).2.2.1 r j = g.2.2.1 r j := sorry
theorem CM.cut {n ni nu us : Nat} {ty : Nat → Nat} {V : Nat → Nat → List It} {U : Nat → List Un} (c : CM X S μ A cr ci cb n ty V U ni nu us) : CM X S μ A cr ci cb n ty (fun r j => if j < fCt S (ty r) then V r j else []) U ni nu us := sorry
theorem cpT.cut {g : He} {lo : Nat} : ∀ {f r r' : Nat}, cpT S h g lo f r r' → cpT S h (cutH S g) lo f r r' := sorry
theorem rWl.cut {g : He} {a : Nat} (w : rWl S g a) : rWl S (cutH S g) a := sorry
theorem pU.cut {g : He} {lo : Nat} (w : pU S g lo) : pU S (cutH S g) lo := sorry
def cSto (S : SF) (N : NF) (μ : ab_M) (A cr ci cb k bs : Nat) (h : He) : Prop := cMS μ A k bs S N ∧ μ A 2 = 0 ∧ ∃ ni nu us, CM (fun _ => none) S μ A cr ci cb h.1 h.2.1 h.2.2.1 h.2.2.2 ni nu us
def frA (A : Nat) (μ μ' : ab_M) : Prop := ∀ a, ¬ inM A a → ∀ i, μ' a i = μ a i
theorem CM.nil (hm : isM A cr ci cb) (e : μ A 3 = 0 ∧ μ A 8 = 0 ∧ μ A 17 = 0 ∧ μ A 26 = 0 ∧ μ A 33 = 0) {ty : Nat → Nat} {V : Nat → Nat → List It} {U : Nat → List Un} : CM (fun _ => none) S μ A cr ci cb 0 ty V U 0 0 0 := sorry
theorem c_becomeU {al : Nat → Bool} (hm : isM A cr ci cb) (hm2 : isM A2 cr2 ci2 cb2) (dj : ∀ a, inM A2 a → ¬ inM A a) (st : cSto S N μ A2 cr2 ci2 cb2 k bs h) (h0 : 0 < h.1) (hg : hG S h) (ht : hTy S h) (hcn : hCn S h) (dn : hDn S h al) (a0 : al 0 = true) (hn : hNm S h) (r1 : vlS S h < cr ∧ vlS S h ≤ ci ∧ btS S h ≤ cb) (hD : 2 * h.1 + 7 ≤ D) :
    R3 (ab_run wc ((D + 1)) 373 0 [(2, 1), (2, A), (2, A2)] [] μ) (fun μ' => μ' A 0 = 1 ∧ ∃ h', cSto S N μ' A cr ci cb k bs h' ∧ hEq S h h' ∧ hWell S h' ∧ hDn S h' (fun _ => true) ∧ hNm S h' ∧ frA A μ μ' ∧ pU S h' 0 ∧ cutd S h' ∧ (h'.1 : Int) ≤ 1 + vlS S h ∧ ∃ ni nu us : Nat, CM (fun _ => none) S μ' A cr ci cb h'.1 h'.2.1 h'.2.2.1 h'.2.2.2 ni nu us ∧ (ni : Int) ≤ vlS S h ∧ (nu : Int) ≤ vlS S h ∧ (us : Int) ≤ btS S h) := sorry
def mE (S : SF) (h : He) : Prop := pU S h 0 ∧ cutd S h
theorem c_becomeM {al : Nat → Bool} (hm : isM A cr ci cb) (hm2 : isM A2 cr2 ci2 cb2) (dj : ∀ a, inM A2 a → ¬ inM A a) (st : cSto S N μ A2 cr2 ci2 cb2 k bs h) (h0 : 0 < h.1) (hg : hG S h) (ht : hTy S h) (hcn : hCn S h) (dn : hDn S h al) (a0 : al 0 = true) (hn : hNm S h) (r1 : vlS S h < cr ∧ vlS S h ≤ ci ∧ btS S h ≤ cb) (hD : 2 * h.1 + 7 ≤ D) :
    R3 (ab_run wc ((D + 1)) 373 0 [(2, 1), (2, A), (2, A2)] [] μ) (fun μ' => μ' A 0 = 1 ∧ ∃ h', cSto S N μ' A cr ci cb k bs h' ∧ hEq S h h' ∧ hWell S h' ∧ hDn S h' (fun _ => true) ∧ hNm S h' ∧ frA A μ μ') := sorry
end Cs
end
section
section Tc
variable {μ μ' μ'' : ab_M} {d : Nat} {S : SF} {N : NF} {a b e c p f : Nat}
def frPo (b p n : Nat) (μ μ' : ab_M) : Prop := ∀ x i, (x ≠ 7879 ∨ i < 9000 * b + p ∨ 9000 * b + p + n ≤ i) → (x ≠ 7868 ∨ i ≠ b) → μ' x i = μ x i
theorem tw_ce63 (ha : a < 16) (hb : b < 16) (ab : a ≠ b) (he : e < 73600) (hc : c < 73600) (hem : e / 4600 = a) {sz : Nat} (h9 : f + sz ≤ 9000) : ∀ (l : List Int) (k p : Nat) (μ : ab_M), k + l.length = sz → μ 7874 e = f → μ 7875 e = sz → tBy μ 7879 (9000 * a + f + k) l → μ 7868 b = p → p + l.length ≤ 9000 →
    ∃ μ', (ab_run wt (d + 3) 28 63 [(2, 7756), (0, b), (0, e), (0, c), (0, k)] [] μ) = (ab_run wt (d + 3) 28 120 [(2, 7756), (0, b), (0, e), (0, c), (0, 0)] [] (ab_up (ab_up μ' 7877 c ((p + l.length : Nat) : Int)) 7878 c (ab_up μ' 7877 c ((p + l.length : Nat) : Int) 7878 e))) ∧ tBy μ' 7879 (9000 * b + p) l ∧ μ' 7868 b = ((p + l.length : Nat) : Int) ∧ frPo b p l.length μ μ' := sorry
theorem tw_ce120 (ha : a < 16) (hb : b < 16) (ab : a ≠ b) (he : e < 73600) (hem : e / 4600 = a) {sz : Nat} (h9 : f + sz ≤ 9000) : ∀ (l : List Int) (k p : Nat) (μ : ab_M), k + l.length = sz → μ 7877 e = f → μ 7878 e = sz → tBy μ 7879 (9000 * a + f + k) l → μ 7868 b = p → p + l.length ≤ 9000 →
    R0 (ab_run wt (d + 3) 28 120 [(2, 7756), (0, b), (0, e), (0, c), (0, k)] [] μ) (fun v μ' => v = c ∧ tBy μ' 7879 (9000 * b + p) l ∧ μ' 7868 b = ((p + l.length : Nat) : Int) ∧ frPo b p l.length μ μ') := sorry
def ceP (b c uM pM : Nat) (F nu ky : Int) (l l2 : List Int) (μ μ' : ab_M) : Prop := (μ' 7869 c = F ∧ μ' 7873 c = nu ∧ tMx μ' b (pM + l.length + l2.length) 7874 7875 c l ∧ μ' 7876 c = ky ∧ tMx μ' b (pM + l.length + l2.length) 7877 7878 c l2) ∧ (μ' 7870 c = -2 ∧ μ' 7871 c = -2 ∧ μ' 7872 c = -2) ∧ μ' 7867 b = ((uM + 1 : Nat) : Int) ∧ μ' 7868 b = ((pM + l.length + l2.length : Nat) : Int) ∧
  ∀ x i, ((7869 ≤ x ∧ x ≤ 7878) → i ≠ c) → (x ≠ 7879 ∨ i < 9000 * b + pM ∨ 9000 * b + 9000 ≤ i) → (x ≠ 7868 ∨ i ≠ b) → (x ≠ 7867 ∨ i ≠ b) → μ' x i = μ x i
theorem tw_copyEntry {uM pM pA : Nat} {l l2 : List Int} (ha : a < 16) (hb : b < 16) (ab : a ≠ b) (he : e < 73600) (hem : e / 4600 = a) (hu : μ 7867 b = uM) (hu2 : uM < 4600) (hp : μ 7868 b = pM) (h9 : pM + l.length + l2.length ≤ 9000) (hA : pA ≤ 9000) (t1 : tMx μ a pA 7874 7875 e l) (t2 : tMx μ a pA 7877 7878 e l2) :
    R0 (ab_run wt (d + 4) 28 0 [(2, 7756), (0, b), (0, e), (3, 0), (3, 0)] [] μ) (fun v μ' => v = ((4600 * b + uM : Nat) : Int) ∧ ceP b (4600 * b + uM) uM pM (μ 7869 e) (μ 7873 e) (μ 7876 e) l l2 μ μ') := sorry
end Tc
end
section
section Tw
variable {μ μ' μ'' : ab_M} {S : SF} {t : Nat} {R R' : Nat → Nat → Prop}
def wsE (S : SF) (t : Nat) (R : Nat → Nat → Prop) : List We → List We → Prop
  | [], [] => True
  | x :: L, y :: L' => x.1 = y.1 ∧ (x.2.1 = y.2.1 ∧ x.2.2.1 = y.2.2.1 ∧ x.2.2.2.1 = y.2.2.2.1 ∧ x.2.2.2.2.1 = y.2.2.2.2.1) ∧ (S 12 t x.1 = 12 → R x.2.2.2.2.2 y.2.2.2.2.2) ∧ (S 12 t x.1 ≠ 12 → y.2.2.2.2.2 = 0) ∧ wsE S t R L L'
  | [], _ :: _ => False
  | _ :: _, [] => False
theorem wsE.to : ∀ {L L' : List We}, wsE S t R L L' → (∀ x y, R x y → R' x y) → wsE S t R' L L' := sorry
theorem wsE.app {x y : We} : ∀ {L L' : List We}, wsE S t R L L' → wsE S t R [x] [y] → wsE S t R (L ++ [x]) (L' ++ [y]) := sorry
theorem wsE.its {j : Nat} : ∀ {L L' : List We}, wsE S t R L L' → itsE R (decide (S 12 t j = 12)) (wV L j) (wV L' j) ∧ (S 12 t j ≠ 12 → ∀ u ∈ wV L' j, u.2.2.2.2 = 0) := sorry
theorem wsE.fst : ∀ {L L' : List We}, wsE S t R L L' → ∀ y ∈ L', ∃ x ∈ L, x.1 = y.1 := sorry
def byE : List We → Int
  | [] => 0
  | x :: L => x.2.2.2.2.1.length + x.2.2.1.length + byE L
theorem byE_0 : ∀ L : List We, 0 ≤ byE L := sorry
theorem sumN_z : ∀ n, sumN (fun _ => 0) n = 0 := sorry
theorem wV_len {k : Nat} : ∀ (W : List We), (∀ x ∈ W, x.1 < k) → sumN (fun j => ((wV W j).length : Int)) k = W.length := sorry
theorem wV_by {k : Nat} : ∀ (W : List We), (∀ x ∈ W, x.1 < k) → sumN (fun j => byV (wV W j)) k = byE W := sorry
theorem mz_W {h : He} {al : Nat → Bool} {r : Nat} {W : List We} (dn : hDn S h al) (hr : r < h.1) (ha : al r = true) (hv : ∀ j, h.2.2.1 r j = wV W j) (lt : ∀ x ∈ W, x.1 < fCt S (h.2.1 r)) :
    (W.length : Int) + (h.2.2.2 r).length + sumK (mzV S h h.1) (chl S (h.2.1 r) W) ≤ mzV S h h.1 r ∧ byE W + byU (h.2.2.2 r) + sumK (mzB S h h.1) (chl S (h.2.1 r) W) = mzB S h h.1 r := sorry
end Tw
end
section
section Tl
variable {μ μ' μ'' : ab_M} {S : SF} {N : NF} {m s n : Nat} {al : Nat → Bool} {ty : Nat → Nat} {V V' : Nat → Nat → List It} {U : Nat → List Un} {ε : Nat → Nat} {W : Nat → List We} {c uc : Nat → List Nat} {own : Nat → Nat} {uM pM r j e : Nat}
def laM (μ : ab_M) (H h : Nat) (last : Int) (e : Nat) : ab_M := if last < 0 then ab_up μ H h e else ab_up μ 7870 last.toNat e
theorem laM_o {H h x i : Nat} {last : Int} (h1 : x ≠ H ∨ i ≠ h) (h2 : x ≠ 7870 ∨ last < 0 ∨ i ≠ last.toNat) : laM μ H h last e x i = μ x i := sorry
theorem laM_g {H h : Nat} {cs : List Nat} (hH : H ≠ 7870) (t : tSg μ (μ H h) cs (-2)) (nd : cs.Nodup) (he : e ∉ cs) (e2 : μ 7870 e = -2) : tSg (laM μ H h (lsI cs) e) (laM μ H h (lsI cs) e H h) (cs ++ [e]) (-2) := sorry
theorem tH.lnk {t : It} (h : tH S μ m s n al ty V U ε W c uc own uM pM) (hr : r < n) (ha : al r = true) (he : 4600 * m < e ∧ e < 4600 * m + uM ∧ ∀ r', r' < n → al r' = true → e ∉ c r' ∧ e ∉ uc r') (en : tEn S μ m s pM ε (ty r) e (j, t)) (e2 : μ 7870 e = -2) (so : ∀ x ∈ W r, S 10 (ty r) x.1 ≤ S 10 (ty r) j) (g7 : S 12 (ty r) j = 12 → t.2.2.2.2 < n ∧ al t.2.2.2.2 = true ∧ r < t.2.2.2.2) :
    ∃ own', tH S (laM μ 7871 (ε r) (lsI (c r)) e) m s n al ty (upV V r j (V r j ++ [t])) U ε (upL W r (W r ++ [(j, t)])) (upL c r (c r ++ [e])) uc own' uM pM := sorry
theorem tUs_app {c1 c2 : List Nat} : ∀ {cs : List Nat} {L : List Un} {x : Un}, tUs μ m pM cs L → tUs μ m pM [e] [x] → tUs μ m pM (cs ++ [e]) (L ++ [x]) := sorry
theorem tH.unk {x : Un} (h : tH S μ m s n al ty V U ε W c uc own uM pM) (hr : r < n) (ha : al r = true) (he : 4600 * m < e ∧ e < 4600 * m + uM ∧ ∀ r', r' < n → al r' = true → e ∉ c r' ∧ e ∉ uc r') (en : tUs μ m pM [e] [x]) (e2 : μ 7870 e = -2) :
    tH S (laM μ 7872 (ε r) (lsI (uc r)) e) m s n al ty V (upL U r (U r ++ [x])) ε W c (upL uc r (uc r ++ [e])) (fun i => if i = e then 2 * r + 1 else own i) uM pM := sorry
end Tl
end
section
section Ly
variable {S : SF} {z z' st st' ρ ρ' : Nat → Nat} {W W' : Nat → List We} {c uc c' uc' : Nat → List Nat} {ty ty' : Nat → Nat} {U U' : Nat → List Un} {K : List (Nat × Nat)} {n b uM q r lr tl m nu x v cc t : Nat} {l : List Nat}
def sZ (z : Nat → Nat) : List Nat → Nat
  | [] => 0
  | x :: L => z x + sZ z L
def zsO (S : SF) (n : Nat) (al : Nat → Bool) (ty : Nat → Nat) (U : Nat → List Un) (Ws : Nat → List We) (z : Nat → Nat) : Prop := ∀ r, r < n → al r = true → z r = (Ws r).length + (U r).length + sZ z (chl S (ty r) (Ws r))
def lyK (z st : Nat → Nat) : List (Nat × Nat) → Nat → Prop
  | [], _ => True
  | p :: K, v => st p.2 = v ∧ lyK z st K (v + z p.1)
def lyP (z st : Nat → Nat) : List Nat → Nat → Prop
  | [], _ => True
  | x :: l, v => st x = v + sZ z l ∧ lyP z st l v
def lyD (S : SF) (ty : Nat → Nat) (U : Nat → List Un) (z st : Nat → Nat) (W : Nat → List We) (c uc : Nat → List Nat) (x : Nat) : Prop := (c x = List.range' (st x) (W x).length ∧ uc x = List.range' (st x + (W x).length) (U x).length) ∧ z x = (W x).length + (U x).length + sZ z (chl S (ty x) (W x)) ∧ lyP z st (chl S (ty x) (W x)) (st x + (W x).length + (U x).length)
def lyS (S : SF) (b uM n : Nat) (ty : Nat → Nat) (U : Nat → List Un) (z ρ : Nat → Nat) (K : List (Nat × Nat)) (W : Nat → List We) (c uc : Nat → List Nat) (q lr tl m nu : Nat) : Prop := ∃ st : Nat → Nat, st 0 = 4600 * b + 1 ∧ 4600 * b + uM = st q + m + nu ∧ (c q = List.range' (st q) m ∧ uc q = List.range' (st q + m) nu) ∧ lyK z st K (st q + lr + tl) ∧ lyP (fun x => z (ρ x)) st (chl S (ty q) (W q)) (st q + lr + tl) ∧ ∀ x, x < n → x ≠ q → x ∉ K.map Prod.snd → lyD S ty U (fun x => z (ρ x)) st W c uc x
def lyM (S : SF) (b uM n : Nat) (ty : Nat → Nat) (U : Nat → List Un) (z ρ : Nat → Nat) (K : List (Nat × Nat)) (W : Nat → List We) (c uc : Nat → List Nat) : Prop := ∃ st : Nat → Nat, st 0 = 4600 * b + 1 ∧ lyK z st K (4600 * b + uM) ∧ ∀ x, x < n → x ∉ K.map Prod.snd → lyD S ty U (fun x => z (ρ x)) st W c uc x
theorem sZ_to : ∀ {L : List Nat}, (∀ x ∈ L, z' x = z x) → sZ z' L = sZ z L := sorry
theorem sZ_app : ∀ {L : List Nat}, sZ z (L ++ [x]) = sZ z L + z x := sorry
theorem lyP_to : ∀ {l : List Nat}, (∀ x ∈ l, st' x = st x ∧ z' x = z x) → lyP z st l v → lyP z' st' l v := sorry
theorem lyP_app : ∀ {l : List Nat}, lyP z st l (v + z x) → st x = v → lyP z st (l ++ [x]) v := sorry
theorem lyK_to : ∀ {K : List (Nat × Nat)} {v : Nat}, (∀ p ∈ K, st' p.2 = st p.2) → lyK z st K v → lyK z st' K v := sorry
theorem chl_app : ∀ {A B : List We}, chl S t (A ++ B) = chl S t A ++ chl S t B := sorry
theorem wsE_len {R : Nat → Nat → Prop} : ∀ {L L' : List We}, wsE S t R L L' → L.length = L'.length := sorry
theorem wsE_sz {R : Nat → Nat → Prop} (hR : ∀ y w, R y w → ρ w = y) : ∀ {L L' : List We}, wsE S t R L L' → sZ (fun x => z (ρ x)) (chl S t L') = sZ z (chl S t L) := sorry
theorem lyD.to (y : lyD S ty U z st W c uc x) (e1 : ty' x = ty x) (e2 : U' x = U x) (e3 : W' x = W x) (e4 : c' x = c x) (e5 : uc' x = uc x) (e6 : st' x = st x) (e7 : z' x = z x) (e8 : ∀ y ∈ chl S (ty x) (W x), st' y = st y ∧ z' y = z y) : lyD S ty' U' z' st' W' c' uc' x := sorry
theorem lyM.beg {p : Nat × Nat} (y : lyM S b uM n ty U z ρ (p :: K) W c uc) (hz : z p.1 = lr + tl) (eW : W p.2 = []) (ec : c p.2 = []) (eu : uc p.2 = []) : lyS S b uM n ty U z ρ K W c uc p.2 lr tl 0 0 := sorry
theorem lyS.fin (y : lyS S b uM n ty U z ρ K W c uc q lr 0 (W q).length (U q).length) (hl : lr = (W q).length + (U q).length) (hz : z (ρ q) = lr + sZ (fun x => z (ρ x)) (chl S (ty q) (W q))) : lyM S b uM n ty U z ρ K W c uc := sorry
theorem lyS.one {j : Nat} {i : It} (y : lyS S b uM n ty U z ρ K W c uc q lr tl m 0) (e : cc = 4600 * b + uM) (n12 : S 12 (ty q) j ≠ 12) : lyS S b (uM + 1) n ty U z ρ K (upL W q (W q ++ [(j, i)])) (upL c q (c q ++ [cc])) uc q lr tl (m + 1) 0 := sorry
theorem lyS.unk {i : Un} (y : lyS S b uM n ty U z ρ K W c uc q lr tl m nu) (e : cc = 4600 * b + uM) : lyS S b (uM + 1) n ty (upL U q (U q ++ [i])) z ρ K W c (upL uc q (uc q ++ [cc])) q lr tl m (nu + 1) := sorry
theorem lyS.rec {j k : Nat} {i : It} (y : lyS S b uM n ty U z ρ K W c uc q lr (z k + tl) m 0) (e : cc = 4600 * b + uM) (hq : q < n) (k12 : S 12 (ty q) j = 12) (hi : i.2.2.2.2 = n) (hK : ∀ p ∈ K, p.2 < n) (hc : ∀ x, x < n → ∀ y ∈ chl S (ty x) (W x), y < n) (ht : ∀ x, x < n → ty' x = ty x) (hU : ∀ x, x < n → U' x = U x) (hn : 0 < n) : lyS S b (uM + 1) (n + 1) ty' U' z (upL ρ n k) ((k, n) :: K) (upL (upL W n []) q (W q ++ [(j, i)])) (upL (upL c n []) q (c q ++ [cc])) (upL uc n []) q lr tl (m + 1) 0 := sorry
def zsF (S : SF) (ty : Nat → Nat) (U : Nat → List Un) (Ws : Nat → List We) : Nat → Nat → Nat
  | 0, _ => 0
  | f + 1, r => (Ws r).length + (U r).length + sZ (zsF S ty U Ws f) (chl S (ty r) (Ws r))
theorem zsF_eq {al : Nat → Bool} (hc : ∀ r, r < n → al r = true → ∀ y ∈ chl S (ty r) (W r), r < y ∧ y < n ∧ al y = true) : ∀ (f f' r : Nat), r < n → al r = true → n ≤ r + f → n ≤ r + f' → zsF S ty U W f r = zsF S ty U W f' r := sorry
theorem zsO_of {al : Nat → Bool} (hc : ∀ r, r < n → al r = true → ∀ y ∈ chl S (ty r) (W r), r < y ∧ y < n ∧ al y = true) : zsO S n al ty U W (zsF S ty U W n) := sorry
end Ly
end
section
section Ty
variable {μ μ' μ'' μ0 : ab_M} {d : Nat} {S : SF} {N : NF} {a b s r q j e uA pA : Nat} {h g g' : He} {al : Nat → Bool} {εs ε ρ : Nat → Nat} {Ws : Nat → List We} {cs us : Nat → List Nat} {os : Nat → Nat} {K : List (Nat × Nat)}
def frB (b : Nat) (μ μ' : ab_M) : Prop := ∀ x i, (¬ mine b x i ∨ i = 4600 * b ∧ (x = 7873 ∨ x = 7875 ∨ x = 7876 ∨ x = 7878 ∨ x = 7870)) → x ≠ 7885 → x ≠ 7886 → μ' x i = μ x i
theorem frB.trans (f : frB b μ μ') (g : frB b μ' μ'') : frB b μ μ'' := sorry
theorem TS.frb (t : TS μ s S N) (f : frB b μ μ') : TS μ' s S N := sorry
theorem frB.en (f : frB b μ μ') (ab : a ≠ b) {x i : Nat} (h1 : 7869 ≤ x) (h2 : x ≤ 7878) (h3 : 4600 * a ≤ i) (h4 : i < 4600 * a + 4600) : μ' x i = μ x i := sorry
theorem frB.po (f : frB b μ μ') (ab : a ≠ b) {i : Nat} (h3 : 9000 * a ≤ i) (h4 : i < 9000 * a + 9000) : μ' 7879 i = μ 7879 i := sorry
def cStk (μ : ab_M) (εs ε : Nat → Nat) : List (Nat × Nat) → Prop
  | [] => True
  | p :: K => (μ 7885 K.length = εs p.1 ∧ μ 7886 K.length = ε p.2) ∧ cStk μ εs ε K
theorem cStk.to {ε' : Nat → Nat} : ∀ {K : List (Nat × Nat)}, cStk μ εs ε K → (∀ i, i < K.length → μ' 7885 i = μ 7885 i ∧ μ' 7886 i = μ 7886 i) → (∀ p ∈ K, ε' p.2 = ε p.2) → cStk μ' εs ε' K := sorry
def tcD (S : SF) (h g : He) (ρ : Nat → Nat) (x : Nat) : Prop := (∀ j, itsE (fun y z => ρ z = y ∧ x < z ∧ z < g.1) (decide (S 12 (g.2.1 x) j = 12)) (h.2.2.1 (ρ x) j) (g.2.2.1 x j) ∧ (S 12 (g.2.1 x) j ≠ 12 → ∀ u ∈ g.2.2.1 x j, u.2.2.2.2 = 0)) ∧ g.2.2.2 x = h.2.2.2 (ρ x)
def tcI (S : SF) (h : He) (al : Nat → Bool) (εs : Nat → Nat) (μ : ab_M) (g : He) (ε ρ : Nat → Nat) (K : List (Nat × Nat)) (cur : Nat) : Prop :=
  (∀ x, x < g.1 → ρ x < h.1 ∧ al (ρ x) = true ∧ g.2.1 x = h.2.1 (ρ x)) ∧ cStk μ εs ε K ∧ (∀ p ∈ K, p.2 < g.1 ∧ p.2 ≠ cur ∧ ρ p.2 = p.1 ∧ (∀ j, g.2.2.1 p.2 j = []) ∧ g.2.2.2 p.2 = []) ∧ (K.map Prod.snd).Nodup ∧ ∀ x, x < g.1 → x ≠ cur → x ∈ K.map Prod.snd ∨ tcD S h g ρ x
def tFu (m uM n : Nat) (ε : Nat → Nat) (c uc : Nat → List Nat) : Prop := (∀ i, 4600 * m < i → i < 4600 * m + uM → ∃ r, r < n ∧ (i ∈ c r ∨ i ∈ uc r)) ∧ ∀ r, r < n → (∀ i ∈ c r, ε r < i) ∧ ∀ i ∈ uc r, ε r < i
theorem tFu.one {m uM n cc : Nat} {c uc : Nat → List Nat} (f : tFu m uM n ε c uc) (hq : q < n) (e1 : cc = 4600 * m + uM) (e2 : ε q < cc) : tFu m (uM + 1) n ε (upL c q (c q ++ [cc])) uc := sorry
theorem tFu.unk {m uM n cc : Nat} {c uc : Nat → List Nat} (f : tFu m uM n ε c uc) (hq : q < n) (e1 : cc = 4600 * m + uM) (e2 : ε q < cc) : tFu m (uM + 1) n ε c (upL uc q (uc q ++ [cc])) := sorry
theorem tFu.new {m uM n cc : Nat} {c uc : Nat → List Nat} (f : tFu m uM n ε c uc) : tFu m uM (n + 1) (upL ε n cc) (upL c n []) (upL uc n []) := sorry
def tNo (μ : ab_M) (m uM n : Nat) (ε : Nat → Nat) : Prop := ∀ i, 4600 * m ≤ i → i < 4600 * m + uM → (∀ x, x < n → ε x ≠ i) → μ 7871 i = -2 ∧ μ 7872 i = -2
theorem tNo.one {m uM n cc : Nat} (y : tNo μ m uM n ε) (e : cc = 4600 * m + uM) (h : ∀ i, 4600 * m ≤ i → i < cc → (∀ x, x < n → ε x ≠ i) → μ' 7871 i = μ 7871 i ∧ μ' 7872 i = μ 7872 i) (hc : μ' 7871 cc = -2 ∧ μ' 7872 cc = -2) : tNo μ' m (uM + 1) n ε := sorry
theorem tNo.new {m uM n cc : Nat} (y : tNo μ m uM n ε) (e : cc = 4600 * m + uM) (hn : ∀ x, x < n → ε x ≠ cc) (h : ∀ i, 4600 * m ≤ i → i < cc → (∀ x, x < n → ε x ≠ i) → μ' 7871 i = μ 7871 i ∧ μ' 7872 i = μ 7872 i) : tNo μ' m (uM + 1) (n + 1) (upL ε n cc) := sorry
abbrev Ts := ab_M × He × (Nat → Nat) × (Nat → Nat) × List (Nat × Nat) × Nat × Nat
def tcS (S : SF) (μ0 : ab_M) (b s : Nat) (h : He) (al : Nat → Bool) (εs z : Nat → Nat) (lr tl q r : Nat) (P : List We) (last : Int) : Ts → Prop := fun (μ, g, ε, ρ, K, uM, pM) =>
  frB b μ0 μ ∧ (∃ W c uc own, tH S μ b s g.1 (fun _ => true) g.2.1 g.2.2.1 g.2.2.2 ε W c uc own uM pM ∧ last = lsI (c q) ∧ wsE S (h.2.1 r) (fun y z => ρ z = y ∧ q < z ∧ z < g.1) P (W q) ∧ tFu b uM g.1 ε c uc ∧ lyS S b uM g.1 g.2.1 g.2.2.2 z ρ K W c uc q lr tl P.length 0 ∧ tNo μ b uM g.1 ε) ∧ tcI S h al εs μ g ε ρ K q ∧ (q < g.1 ∧ ρ q = r ∧ g.2.2.2 q = []) ∧ g.1 ≤ uM ∧ noOr S g.1 (fun _ => true) g.2.1 g.2.2.1 (fun _ => False)
theorem tcD.to {ρ' : Nat → Nat} {x : Nat} (t : tcD S h g ρ x) (n : g.1 ≤ g'.1) (sm : smR g g' x) (e : ∀ y, y < g.1 → ρ' y = ρ y) (hx : x < g.1) : tcD S h g' ρ' x := sorry
theorem noOr.app {n : Nat} {ty : Nat → Nat} {V : Nat → Nat → List It} {t : It} {F : Nat → Prop} (w : noOr S n al ty V F) : noOr S n al ty (upV V r j (V r j ++ [t])) F := sorry
theorem tcS.one {P : List We} {last : Int} {g : He} {ε ρ z : Nat → Nat} {uM pM lr tl : Nat} {x : We} {μ1 : ab_M} (ok : scOK S N) (st : tcS S μ0 b s h al εs z lr tl q r P last (μ, g, ε, ρ, K, uM, pM)) (b16 : b < 16) (hu : uM < 4600) (hp : pM + x.2.2.2.2.1.length + x.2.2.1.length ≤ 9000) (xf : x.1 < fCt S (h.2.1 r)) (so : ∀ y ∈ P, S 10 (h.2.1 r) y.1 ≤ S 10 (h.2.1 r) x.1)
    (ce : ceP b (4600 * b + uM) uM pM (fX s (h.2.1 r) x.1) x.2.2.2.1 x.2.1 x.2.2.2.2.1 x.2.2.1 μ μ1) (n12 : S 12 (h.2.1 r) x.1 ≠ 12) :
    last < 73600 ∧ tcS S μ0 b s h al εs z lr tl q r (P ++ [x]) ((4600 * b + uM : Nat) : Int) (laM μ1 7871 (ε q) last (4600 * b + uM), (g.1, g.2.1, upV g.2.2.1 q x.1 (g.2.2.1 q x.1 ++ [(x.2.1, x.2.2.1, x.2.2.2.1, x.2.2.2.2.1, 0)]), g.2.2.2), ε, ρ, K, uM + 1, pM + x.2.2.2.2.1.length + x.2.2.1.length) := sorry
end Ty
end
section
section Ty
variable {μ μ' μ'' μ0 : ab_M} {d : Nat} {S : SF} {N : NF} {a b s r q j e uA pA : Nat} {h g g' : He} {al : Nat → Bool} {εs ε ρ : Nat → Nat} {Ws : Nat → List We} {cs us : Nat → List Nat} {os : Nat → Nat} {K : List (Nat × Nat)}
theorem noOr.nw {n k : Nat} {ty : Nat → Nat} {V : Nat → Nat → List It} {t : It} {F : Nat → Prop} (w : noOr S n (fun _ => true) ty V F) (hr : r < n) (hj : j < fCt S (ty r)) (h2 : S 12 (ty r) j = 12) (ht : t.2.2.2.2 = n) : noOr S (n + 1) (fun _ => true) (upT ty n k) (upV (nwV V n) r j (V r j ++ [t])) F := sorry
theorem tcS.rec {P : List We} {last : Int} {g : He} {ε ρ z : Nat → Nat} {uM pM lr tl : Nat} {x : We} {μ1 : ab_M} (ok : scOK S N) (st : tcS S μ0 b s h al εs z lr (z x.2.2.2.2.2 + tl) q r P last (μ, g, ε, ρ, K, uM, pM)) (b16 : b < 16) (hu : uM < 4600) (hp : pM + x.2.2.2.2.1.length + x.2.2.1.length ≤ 9000) (xf : x.1 < fCt S (h.2.1 r)) (so : ∀ y ∈ P, S 10 (h.2.1 r) y.1 ≤ S 10 (h.2.1 r) x.1)
    (ce : ceP b (4600 * b + uM) uM pM (fX s (h.2.1 r) x.1) x.2.2.2.1 x.2.1 x.2.2.2.2.1 x.2.2.1 μ μ1) (k12 : S 12 (h.2.1 r) x.1 = 12) (hx : x.2.2.2.2.2 < h.1 ∧ al x.2.2.2.2.2 = true) (k13 : S 13 (h.2.1 r) x.1 = h.2.1 x.2.2.2.2.2) (hk : (h.2.1 x.2.2.2.2.2 : Int) < S 0 0 0 ∧ S 2 (h.2.1 x.2.2.2.2.2) 0 = 1) (hr : (h.2.1 r : Int) < S 0 0 0 ∧ S 2 (h.2.1 r) 0 = 1) :
    last < 73600 ∧ K.length < g.1 ∧ tcS S μ0 b s h al εs z lr tl q r (P ++ [x]) ((4600 * b + uM : Nat) : Int) (ab_up (ab_up (laM μ1 7871 (ε q) last (4600 * b + uM)) 7885 K.length (εs x.2.2.2.2.2)) 7886 K.length ((4600 * b + uM : Nat) : Int), (g.1 + 1, upT g.2.1 g.1 (h.2.1 x.2.2.2.2.2), upV (nwV g.2.2.1 g.1) q x.1 (g.2.2.1 q x.1 ++ [(x.2.1, x.2.2.1, x.2.2.2.1, x.2.2.2.2.1, g.1)]), nwU g.2.2.2 g.1), upL ε g.1 (4600 * b + uM), upL ρ g.1 x.2.2.2.2.2, (x.2.2.2.2.2, g.1) :: K, uM + 1, pM + x.2.2.2.2.1.length + x.2.2.1.length) := sorry
end Ty
end
section
section Ty
variable {μ μ' μ'' μ0 : ab_M} {d : Nat} {S : SF} {N : NF} {a b s r q j e uA pA : Nat} {h g g' : He} {al : Nat → Bool} {εs ε ρ : Nat → Nat} {Ws : Nat → List We} {cs us : Nat → List Nat} {os : Nat → Nat} {K : List (Nat × Nat)}
abbrev mqV (S : SF) (h : He) (x : Nat) : Int := mzV S h h.1 x
abbrev mqB (S : SF) (h : He) (x : Nat) : Int := mzB S h h.1 x
theorem sumK_0 {F : Nat → Int} (e : ∀ x, 0 ≤ F x) : ∀ L : List Nat, 0 ≤ sumK F L := sorry
theorem tMx.frb {l : List Int} {x y i : Nat} (f : frB b μ μ') (ab : a ≠ b) (p9 : pA ≤ 9000) (h1 : 7869 ≤ x ∧ x ≤ 7878) (h2 : 7869 ≤ y ∧ y ≤ 7878) (h3 : 4600 * a ≤ i ∧ i < 4600 * a + 4600) (t : tMx μ a pA x y i l) : tMx μ' a pA x y i l := sorry
theorem tEs_has {m pM t : Nat} {x : We} : ∀ {c : List Nat} {W : List We}, tEs S μ m s pM ε t c W → x ∈ W → ∃ i ∈ c, tEn S μ m s pM ε t i x := sorry
theorem tw_cp90 {z : Nat → Nat} {lr : Nat} {BU BP : Int} (hBU : BU ≤ 4600) (hBP : BP ≤ 9000) (ok : scOK S N) (nu : nuOK S) (a16 : a < 16) (b16 : b < 16) (ab : a ≠ b) (ts : TS μ0 s S N) (H0 : tH S μ0 a s h.1 al h.2.1 h.2.2.1 h.2.2.2 εs Ws cs us os uA pA) (hr : r < h.1) (har : al r = true) :
    ∀ (L : List We) (cL : List Nat) (P : List We) (last x : Int) (μ : ab_M) (g : He) (ε ρ : Nat → Nat) (K : List (Nat × Nat)) (uM pM : Nat), tSg μ0 x cL (-2) → tEs S μ0 a s pA εs (h.2.1 r) cL L → (∀ i ∈ cL, 4600 * a ≤ i ∧ i < 4600 * a + 4600) → P ++ L = Ws r → tcS S μ0 b s h al εs z lr (sZ z (chl S (h.2.1 r) L)) q r P last (μ, g, ε, ρ, K, uM, pM) →
    (uM : Int) + (L.length + (h.2.2.2 r).length + sumK (mqV S h) (chl S (h.2.1 r) L)) + sumK (mqV S h) (K.map Prod.fst) ≤ BU → (pM : Int) + (byE L + byU (h.2.2.2 r) + sumK (mqB S h) (chl S (h.2.1 r) L)) + sumK (mqB S h) (K.map Prod.fst) ≤ BP →
    ∃ (last' : Int) (μ' : ab_M) (g' : He) (ε' ρ' : Nat → Nat) (K' : List (Nat × Nat)) (uM' pM' : Nat), (ab_run wt (d + 5) 30 90 [(2, 7756), (0, a), (0, b), (0, (K.length)), (0, (εs r)), (0, (ε q)), (0, last), (0, x), (3, 0)] [] μ) = (ab_run wt (d + 5) 30 187 [(2, 7756), (0, a), (0, b), (0, (K'.length)), (3, 0), (0, (ε' q)), (0, (-2)), (0, (μ0 7872 (εs r))), (3, 0)] [] μ') ∧ tcS S μ0 b s h al εs z lr 0 q r (Ws r) last' (μ', g', ε', ρ', K', uM', pM') ∧
      (uM' : Int) + (h.2.2.2 r).length + sumK (mqV S h) (K'.map Prod.fst) ≤ BU ∧ (pM' : Int) + byU (h.2.2.2 r) + sumK (mqB S h) (K'.map Prod.fst) ≤ BP ∧ sumK (fun x => 1 + mqV S h x) (K'.map Prod.fst) ≤ sumK (fun x => 1 + mqV S h x) (K.map Prod.fst) + sumK (fun x => 1 + mqV S h x) (chl S (h.2.1 r) L) ∧ g.1 ≤ g'.1 ∧ ∀ y, y < g.1 → ρ' y = ρ y := sorry
end Ty
end
section
section Ty
variable {μ μ' μ'' μ0 : ab_M} {d : Nat} {S : SF} {N : NF} {a b s r q j e uA pA : Nat} {h g g' : He} {al : Nat → Bool} {εs ε ρ : Nat → Nat} {Ws : Nat → List We} {cs us : Nat → List Nat} {os : Nat → Nat} {K : List (Nat × Nat)}
def tcU (S : SF) (μ0 : ab_M) (b s : Nat) (h : He) (al : Nat → Bool) (εs z : Nat → Nat) (lr q r : Nat) (P : List We) (Pu : List Un) (last : Int) : Ts → Prop := fun (μ, g, ε, ρ, K, uM, pM) =>
  frB b μ0 μ ∧ (∃ W c uc own, tH S μ b s g.1 (fun _ => true) g.2.1 g.2.2.1 g.2.2.2 ε W c uc own uM pM ∧ last = lsI (uc q) ∧ wsE S (h.2.1 r) (fun y z => ρ z = y ∧ q < z ∧ z < g.1) P (W q) ∧ tFu b uM g.1 ε c uc ∧ lyS S b uM g.1 g.2.1 g.2.2.2 z ρ K W c uc q lr 0 P.length Pu.length ∧ tNo μ b uM g.1 ε) ∧ tcI S h al εs μ g ε ρ K q ∧ (q < g.1 ∧ ρ q = r ∧ g.2.2.2 q = Pu) ∧ g.1 ≤ uM ∧ noOr S g.1 (fun _ => true) g.2.1 g.2.2.1 (fun _ => False)
theorem tcS.u {P : List We} {last : Int} {st : Ts} {z : Nat → Nat} {lr : Nat} (w : tcS S μ0 b s h al εs z lr 0 q r P last st) : tcU S μ0 b s h al εs z lr q r P [] (-2) st := sorry
theorem tcU.one {P : List We} {Pu : List Un} {last : Int} {g : He} {ε ρ z : Nat → Nat} {uM pM lr : Nat} {x : Un} {μ1 : ab_M} (st : tcU S μ0 b s h al εs z lr q r P Pu last (μ, g, ε, ρ, K, uM, pM)) (b16 : b < 16) (hu : uM < 4600) (hp : pM + x.2.2.length ≤ 9000) (ce : ceP b (4600 * b + uM) uM pM (-3) x.1 x.2.1 x.2.2 [] μ μ1) :
    last < 73600 ∧ tcU S μ0 b s h al εs z lr q r P (Pu ++ [x]) ((4600 * b + uM : Nat) : Int) (laM μ1 7872 (ε q) last (4600 * b + uM), (g.1, g.2.1, g.2.2.1, upL g.2.2.2 q (g.2.2.2 q ++ [x])), ε, ρ, K, uM + 1, pM + x.2.2.length) := sorry
theorem tw_cp187 {z : Nat → Nat} {lr : Nat} (a16 : a < 16) (b16 : b < 16) (ab : a ≠ b) (pA9 : pA ≤ 9000) {P : List We} :
    ∀ (L : List Un) (cL : List Nat) (Pu : List Un) (last x : Int) (μ : ab_M) (g : He) (uM pM : Nat), tSg μ0 x cL (-2) → tUs μ0 a pA cL L → (∀ i ∈ cL, 4600 * a ≤ i ∧ i < 4600 * a + 4600) → tcU S μ0 b s h al εs z lr q r P Pu last (μ, g, ε, ρ, K, uM, pM) →
    (uM : Int) + L.length ≤ 4600 → (pM : Int) + byU L ≤ 9000 →
    ∃ (last' : Int) (μ' : ab_M) (g' : He) (uM' pM' : Nat), (ab_run wt (d + 5) 30 187 [(2, 7756), (0, a), (0, b), (0, (K.length)), (3, 0), (0, (ε q)), (0, last), (0, x), (3, 0)] [] μ) = (ab_run wt (d + 5) 30 54 [(2, 7756), (0, a), (0, b), (0, (K.length)), (3, 0), (3, 0), (3, 0), (3, 0), (3, 0)] [] μ') ∧ tcU S μ0 b s h al εs z lr q r P (Pu ++ L) last' (μ', g', ε, ρ, K, uM', pM') ∧ (uM' : Int) = uM + L.length ∧ (pM' : Int) = pM + byU L := sorry
def rtZ (μ : ab_M) (m : Nat) : Prop := ∀ x, (x = 7873 ∨ x = 7875 ∨ x = 7876 ∨ x = 7878) → μ x (4600 * m) = 0
def tLy (S : SF) (m n : Nat) (ty : Nat → Nat) (U : Nat → List Un) (W : Nat → List We) (c uc : Nat → List Nat) : Prop := ∃ st z : Nat → Nat, st 0 = 4600 * m + 1 ∧ ∀ x, x < n → lyD S ty U z st W c uc x
def TF (S : SF) (μ : ab_M) (m s : Nat) (h : He) (ε : Nat → Nat) (uM pM : Nat) : Prop := ∃ W c uc own, tH S μ m s h.1 (fun _ => true) h.2.1 h.2.2.1 h.2.2.2 ε W c uc own uM pM ∧ tFu m uM h.1 ε c uc ∧ tLy S m h.1 h.2.1 h.2.2.2 W c uc ∧ rtZ μ m ∧ μ 7870 (4600 * m) = -2 ∧ tNo μ m uM h.1 ε
theorem TF.tm {m uM pM : Nat} (t : TF S μ m s h ε uM pM) : TM S μ m s h.1 (fun _ => true) h.2.1 h.2.2.1 h.2.2.2 ε uM pM := sorry
def tcM (S : SF) (μ0 : ab_M) (b s : Nat) (h : He) (al : Nat → Bool) (εs z : Nat → Nat) : Ts → Prop := fun (μ, g, ε, ρ, K, uM, pM) =>
  frB b μ0 μ ∧ (∃ W c uc own, tH S μ b s g.1 (fun _ => true) g.2.1 g.2.2.1 g.2.2.2 ε W c uc own uM pM ∧ tFu b uM g.1 ε c uc ∧ lyM S b uM g.1 g.2.1 g.2.2.2 z ρ K W c uc ∧ tNo μ b uM g.1 ε) ∧ tcI S h al εs μ g ε ρ K hole ∧ g.1 ≤ uM ∧ noOr S g.1 (fun _ => true) g.2.1 g.2.2.1 (fun _ => False) ∧ 0 < g.1 ∧ ρ 0 = 0
theorem wV_e : ∀ {W : List We}, (∀ j, wV W j = []) → W = [] := sorry
theorem tw_cp54 {z : Nat → Nat} {BU BP : Int} (hBU : BU ≤ 4600) (hBP : BP ≤ 9000) (ok : scOK S N) (nu : nuOK S) (a16 : a < 16) (b16 : b < 16) (ab : a ≠ b) (ts : TS μ0 s S N) (H0 : tH S μ0 a s h.1 al h.2.1 h.2.2.1 h.2.2.2 εs Ws cs us os uA pA) (hz : zsO S h.1 al h.2.1 h.2.2.2 Ws z) :
    ∀ (m : Nat) (μ : ab_M) (g : He) (ε ρ : Nat → Nat) (K : List (Nat × Nat)) (uM pM : Nat), tcM S μ0 b s h al εs z (μ, g, ε, ρ, K, uM, pM) → sumK (fun x => 1 + mqV S h x) (K.map Prod.fst) ≤ m → (uM : Int) + sumK (mqV S h) (K.map Prod.fst) ≤ BU → (pM : Int) + sumK (mqB S h) (K.map Prod.fst) ≤ BP →
    ∃ (μ' : ab_M) (g' : He) (ε' ρ' : Nat → Nat) (uM' pM' : Nat), (ab_run wt (d + 5) 30 54 [(2, 7756), (0, a), (0, b), (0, (K.length)), (3, 0), (3, 0), (3, 0), (3, 0), (3, 0)] [] μ) = some ((3, 0), ab_up (ab_up μ' 7865 b (μ0 7865 a)) 7866 b (μ0 7866 a)) ∧ tcM S μ0 b s h al εs z (μ', g', ε', ρ', [], uM', pM') ∧ (uM' : Int) ≤ BU ∧ (pM' : Int) ≤ BP := sorry
theorem hEq.sums {g : He} {al' : Nat → Bool} (e : hEq S h g) (dn : hDn S h al) (a0 : al 0 = true) (h0 : 0 < h.1) (dn' : hDn S g al') (g0 : 0 < g.1) (a0' : al' 0 = true := by rfl) : vlS S h = vlS S g ∧ btS S h = btS S g := sorry
theorem tcM.eq {g : He} {ε ρ z : Nat → Nat} {uM pM : Nat} (st : tcM S μ0 b s h al εs z (μ, g, ε, ρ, [], uM, pM)) : ∀ (f x : Nat), x < g.1 → g.1 ≤ x + f → eqT S h g f (ρ x) x := sorry
theorem tcM.wl {g : He} {ε ρ z : Nat → Nat} {uM pM : Nat} (st : tcM S μ0 b s h al εs z (μ, g, ε, ρ, [], uM, pM)) (hg : hG S h) (ht : hTy S h) (hcn : hCn S h) (dn : hDn S h al) (hn : hNm S h) (x : Nat) (hx : x < g.1) : rWl S g x := sorry
theorem tw_clearR {m k : Nat} (hm : m < 16) (e : (ab_run wt (d + 1) 23 0 [(2, 7756), (0, m), (0, s), (0, k), (3, 0)] [] μ) = some ((3, 0), μ')) : (∀ x, (x = 7873 ∨ x = 7875 ∨ x = 7876 ∨ x = 7878) → μ' x (4600 * m) = μ x (4600 * m)) ∧ μ' 7870 (4600 * m) = -2 := sorry
theorem tw_copyToU {uA pA : Nat} (ab : a ≠ b) (a16 : a < 13) (b16 : b < 16) (ga : gh S a = 0) (gb : gh S b = 0) (ts : TS μ s S N) (tm : TM S μ a s h.1 al h.2.1 h.2.2.1 h.2.2.2 εs uA pA) (tc : TC S μ a h.1 al h.2.1 h.2.2.1 h.2.2.2) (no : noOr S h.1 al h.2.1 h.2.2.1 (fun _ => False)) (hg : hG S h) (ht : hTy S h) (hcn : hCn S h) (hn : hNm S h) (v4 : vlS S h ≤ 4000) (b9 : btS S h ≤ 9000) :
    R3 (ab_run wt (d + 5) 30 0 [(2, 7756), (0, a), (0, b), (3, 0), (3, 0), (3, 0), (3, 0), (3, 0), (3, 0)] [] μ) (fun μ' => ∃ (g : He) (ε : Nat → Nat) (uM pM : Nat), ((∃ W c uc own, tH S μ' b s g.1 (fun _ => true) g.2.1 g.2.2.1 g.2.2.2 ε W c uc own uM pM ∧ tFu b uM g.1 ε c uc ∧ tLy S b g.1 g.2.1 g.2.2.2 W c uc ∧ μ' 7870 (4600 * b) = -2 ∧ tNo μ' b uM g.1 ε) ∧ (rtZ μ b → rtZ μ' b)) ∧ TC S μ' b g.1 (fun _ => true) g.2.1 g.2.2.1 g.2.2.2 ∧ noOr S g.1 (fun _ => true) g.2.1 g.2.2.1 (fun _ => False) ∧ hEq S h g ∧ hWell S g ∧ hDn S g (fun _ => true) ∧ hNm S g ∧ μ' 7862 b = 1 ∧ (∀ x i, ¬ mine b x i → (x < 7862 ∨ 7864 < x ∨ i ≠ b) → x ≠ 7885 → x ≠ 7886 → μ' x i = μ x i) ∧ (uM : Int) ≤ 1 + vlS S h ∧ (pM : Int) ≤ btS S h) := sorry
theorem tw_copyTo {uA pA : Nat} (ab : a ≠ b) (a16 : a < 13) (b16 : b < 16) (ga : gh S a = 0) (gb : gh S b = 0) (ts : TS μ s S N) (tm : TM S μ a s h.1 al h.2.1 h.2.2.1 h.2.2.2 εs uA pA) (tc : TC S μ a h.1 al h.2.1 h.2.2.1 h.2.2.2) (no : noOr S h.1 al h.2.1 h.2.2.1 (fun _ => False)) (hg : hG S h) (ht : hTy S h) (hcn : hCn S h) (hn : hNm S h) (v4 : vlS S h ≤ 4000) (b9 : btS S h ≤ 9000) (rz : rtZ μ b) :
    R3 (ab_run wt (d + 5) 30 0 [(2, 7756), (0, a), (0, b), (3, 0), (3, 0), (3, 0), (3, 0), (3, 0), (3, 0)] [] μ) (fun μ' => ∃ (g : He) (ε : Nat → Nat) (uM pM : Nat), TF S μ' b s g ε uM pM ∧ TC S μ' b g.1 (fun _ => true) g.2.1 g.2.2.1 g.2.2.2 ∧ noOr S g.1 (fun _ => true) g.2.1 g.2.2.1 (fun _ => False) ∧ hEq S h g ∧ hWell S g ∧ hDn S g (fun _ => true) ∧ hNm S g ∧ μ' 7862 b = 1 ∧ ∀ x i, ¬ mine b x i → (x < 7862 ∨ 7864 < x ∨ i ≠ b) → x ≠ 7885 → x ≠ 7886 → μ' x i = μ x i) := sorry
end Ty
end
section
section Rk
variable {μ μ' μ'' : ab_M} {d : Nat} {T : Nat → Int} {n : Nat} {S : SF} {N : NF} {A cr ci cb s b : Nat} {h : He} {al : Nat → Bool}
theorem mg_tab : ∀ k, k < 12 → wh_st 1254 k = ((6314 + 27 * k : Nat) : Int) := sorry
theorem isMk {k : Nat} (hk : k < 12) : isM (6314 + 27 * k) 402 402 2008 := sorry
theorem mk_dj {k : Nat} : ∀ a, inM 1255 a → ¬ inM (6314 + 27 * k) a := sorry
theorem mk_dj' {k : Nat} : ∀ a, inM (6314 + 27 * k) a → ¬ inM 1255 a := sorry
def dpS (S : SF) (h : He) : Int := (mzA S h h.1 0 1 (0, 0, 0, 0)).2.2.1
theorem c_meas {D : Nat} (hm : isM A cr ci cb) (ok : scOK S N) (st : cSto S N μ A cr ci cb s b h) (w : hWell S h) (b1 : vlS S h < 2147483648) (b2 : btS S h < 2147483648) (hD : h.1 + 4 ≤ D) :
    R3 (ab_run wc D 449 0 [(2, 1), (2, A)] [] μ) (fun μ' => (μ' 1 14 = vlS S h ∧ μ' 1 15 = btS S h ∧ μ' 1 16 = dpS S h ∧ μ' 1 17 = stS S h) ∧ frE μ μ') := sorry
theorem cSto.e (st : cSto S N μ A cr ci cb s b h) (hm : isM A cr ci cb) (f : frE μ μ') : cSto S N μ' A cr ci cb s b h := sorry
def frY (A : Nat) (μ μ' : ab_M) : Prop := ∀ a i, ¬ inM A a → (a ≠ 1 ∨ i ≠ 3 ∧ (i < 14 ∨ 17 < i)) → μ' a i = μ a i
theorem c_kept {k D : Nat} (hk : k < 12) (st : cSto S N μ 1255 2600 9000 12000 s b h) (w : hWell S h) (b1 : vlS S h ≤ 400) (b2 : btS S h ≤ 2000) (hD : 5300 ≤ D) (dn : hDn S h al) (a0 : al 0 = true) (hn : hNm S h) :
    R0 (ab_run wc ((D + 1)) 429 0 [(2, 1), (0, k)] [] μ) (fun v μ' => v = vlS S h ∧ μ' (6314 + 27 * k) 0 = 1 ∧ μ' 1 3 = -2 ∧ (∃ h', cSto S N μ' (6314 + 27 * k) 402 402 2008 s b h' ∧ hEq S h h' ∧ hWell S h' ∧ hDn S h' (fun _ => true) ∧ hNm S h' ∧ mE S h') ∧ frY (6314 + 27 * k) μ μ') := sorry
end Rk
section Rk
variable {μ μ' μ'' : ab_M} {d : Nat} {S : Nat → SF} {N : Nat → NF} {bs : Nat → Nat} {th : Nat → Int} {tp : List Int}
def tpT (tp : List Int) : Nat → Int := fun k => tp[k]?.getD 0
theorem cRow.T (c : cRow μ 3 4 4000 tp) : ∀ k, k < tp.length → 0 ≤ tpT tp k ∧ tpT tp k < 256 ∧ μ 4 k = sg (tpT tp k) := sorry
def frRd (k : Nat) (μ μ' : ab_M) : Prop := ∀ a i, ¬ inM 1255 a → ¬ inM (6314 + 27 * k) a → a ≠ 2 → (a ≠ 3 ∨ i ≠ 1) → a ≠ 8 → a ≠ 9 → a ≠ 1309 → (a ≠ 1 ∨ i ≠ 3 ∧ (i < 14 ∨ 20 < i)) → μ' a i = μ a i
theorem c_read {D s k : Nat} (hD : 20000 ≤ D) (hs : s < 4) (hk : k < 12) (cs : cSs μ bs th S N) (c : cRow μ 3 4 4000 tp) (hn : ∀ h, xRl (S s) (N s) (tpT tp) tp.length = .inr h → hNm (S s) h)
    (tr : ∀ h, xRd (S s) (N s) (tpT tp) tp.length = .inr h → (0 ≤ vlS (S s) h ∧ vlS (S s) h < 1000000) ∧ (0 ≤ btS (S s) h ∧ btS (S s) h < 1000000000) ∧ 0 < h.1 ∧ ∃ al, hDn (S s) h al ∧ al 0 = true) :
    R0 (ab_run wc ((D + 2)) 487 0 [(2, 1), (0, s), (0, k), (3, 0)] [] μ) (fun v μ' => if th s = 0 then v = -2 ∧ μ' = μ else frRd k μ μ' ∧ μ' 3 1 = 0 ∧ match xRl (S s) (N s) (tpT tp) tp.length with
      | .inl f => v = w32 (-10 - f.1) ∧ μ' 1 3 = f.2 ∧ ∀ a, inM (6314 + 27 * k) a → ∀ i, μ' a i = μ a i
      | .inr h => v = vlS (S s) h ∧ μ' (6314 + 27 * k) 0 = 1 ∧ μ' 1 3 = -2 ∧ hWell (S s) h ∧ ∃ h', cSto (S s) (N s) μ' (6314 + 27 * k) 402 402 2008 s (bs s) h' ∧ hEq (S s) h h' ∧ hWell (S s) h' ∧ hDn (S s) h' (fun _ => true) ∧ hNm (S s) h' ∧ mE (S s) h') := sorry
end Rk
end
section
section Rt
variable {μ μ' μ'' : ab_M} {d : Nat} {T : Nat → Int} {n : Nat} {S : Nat → SF} {N : Nat → NF} {th : Nat → Int} {tp : List Int}
theorem tw_isMessage {x : Int} : (ab_run wt (d + 1) 92 0 [(2, 7756), (0, x)] [] μ) = some ((0, if 0 ≤ x ∧ x < 12 then 1 else 0), μ) := sorry
theorem tw_take10 {n : Nat} (n4 : n ≤ 4000) : ∀ (l : List Int) (k : Nat) (μ : ab_M), k + l.length = n → μ 7756 1 = n → tBy μ 7757 k l → R3 (ab_run wt (d + 1) 300 10 [(2, 7756), (0, k)] [] μ) (fun μ' => tBy μ' 7760 k l ∧ μ' 7756 1 = 0 ∧ μ' 7756 7 = 0 ∧ μ' 7756 17 = 0 ∧ ∀ a i, (a ≠ 7760 ∨ i < k) → (a ≠ 7756 ∨ i ≠ 1 ∧ i ≠ 7 ∧ i ≠ 17) → μ' a i = μ a i) := sorry
def frX (k : Nat) (μ μ' : ab_M) : Prop := ∀ a i, ¬ mine 12 a i → ¬ mine k a i → (a ≠ 7863 ∨ i ≠ 12 ∧ i ≠ k) → (a ≠ 7864 ∨ i ≠ 12 ∧ i ≠ k) → (a ≠ 7862 ∨ i ≠ k) → a ≠ 7760 → a ≠ 7761 → a ≠ 7883 → a ≠ 7881 → a ≠ 7882 → a ≠ 7884 → a ≠ 7885 → a ≠ 7886 → (a ≠ 7756 ∨ i ≠ 1 ∧ i ≠ 4 ∧ (i < 6 ∨ 18 < i) ∧ (i < 154 ∨ 167 < i) ∧ i ≠ 168) → μ' a i = μ a i
theorem tw_read {s k : Nat} (hs : s < 4) (hk : k < 12) (ts : tSs μ th S N) (nu : th s = 1 → nuOK (S s)) (gz : S s 99 0 0 = 0) (rz : rtZ μ k) {rw' : Nat → List Int} (c : tR μ tp rw') (hb : ∀ x ∈ tp, 0 ≤ x ∧ x < 256) (hw : ∀ h, xRl (S s) (N s) (tpT tp) tp.length = .inr h → hG (S s) h ∧ hTy (S s) h ∧ hCn (S s) h ∧ hNm (S s) h ∧ vlS (S s) h ≤ 400 ∧ btS (S s) h ≤ 2000) :
    R0 (ab_run wt (d + 14) 246 0 [(2, 7756), (0, s), (0, k)] [] μ) (fun v μ' => if th s = 0 then v = -2 ∧ μ' = μ else frX k μ μ' ∧ μ' 7756 1 = 0 ∧ match xRl (S s) (N s) (tpT tp) tp.length with
      | .inl f => v = w32 (-10 - f.1) ∧ μ' 7756 4 = f.2 ∧ ∀ a i, mine k a i → a ≠ 7756 → a ≠ 7880 → μ' a i = μ a i
      | .inr h => v = vlS (S s) h ∧ μ' 7862 k = 1 ∧ μ' 7756 4 = -2 ∧ ∃ g ε uM pM, TF (S s) μ' k s g ε uM pM ∧ TC (S s) μ' k g.1 (fun _ => true) g.2.1 g.2.2.1 g.2.2.2 ∧ noOr (S s) g.1 (fun _ => true) g.2.1 g.2.2.1 (fun _ => False) ∧ hEq (S s) h g ∧ hWell (S s) g ∧ hDn (S s) g (fun _ => true) ∧ hNm (S s) g) := sorry
end Rt
end
section
section Dp
variable {S : SF} {h g : He} {n : Nat} {D : Nat → Int} {Q Q' : Nat → Prop} {a b c : Int} {al : Nat → Bool}
def dO (D : Nat → Int) (n : Nat) (Q : Nat → Prop) (a b : Int) : Prop := a ≤ b ∧ (∀ y, Q y → D y ≤ b) ∧ (b = a ∨ ∃ y, y < n ∧ b = D y)
theorem dO.refl : dO D n (fun _ => False) a a := sorry
theorem dO.trans (x : dO D n Q a b) (y : dO D n Q' b c) : dO D n (fun z => Q z ∨ Q' z) a c := sorry
theorem dO.to (x : dO D n Q a b) (q : ∀ y, Q' y → Q y) : dO D n Q' a b := sorry
variable {f : Nat → Ac → Ac} {R : Nat → Nat → Prop}
theorem mzU_d : ∀ (L : List Un) (a : Ac), (mzU L a).2.2.1 = a.2.2.1 := sorry
theorem mzI_d {m3 k9 bb rc : Bool} : ∀ (L : List It) (a : Ac), (rc = true → ∀ q ∈ L, ∀ a : Ac, dO D n (R q.2.2.2.2) a.2.2.1 (f q.2.2.2.2 a).2.2.1) → dO D n (fun y => rc = true ∧ ∃ q ∈ L, R q.2.2.2.2 y) a.2.2.1 (mzI f m3 k9 bb rc L a).2.2.1 := sorry
theorem mzF1_d {t j : Nat} {l : List It} {a : Ac} (l1 : S 11 t j < 2 → l.length ≤ 1) (hf : S 12 t j = 12 → ∀ q ∈ l, ∀ a : Ac, dO D n (R q.2.2.2.2) a.2.2.1 (f q.2.2.2.2 a).2.2.1) : dO D n (fun y => S 12 t j = 12 ∧ ∃ q ∈ l, R q.2.2.2.2 y) a.2.2.1 (mzF1 S t j f l a).2.2.1 := sorry
theorem mzL_d {t : Nat} {v : Nat → List It} : ∀ (m j : Nat) (a : Ac), (∀ i, j ≤ i → i < j + m → (S 11 t i < 2 → (v i).length ≤ 1) ∧ (S 12 t i = 12 → ∀ q ∈ v i, ∀ a : Ac, dO D n (R q.2.2.2.2) a.2.2.1 (f q.2.2.2.2 a).2.2.1)) → dO D n (fun y => ∃ i, (j ≤ i ∧ i < j + m) ∧ S 12 t i = 12 ∧ ∃ q ∈ v i, R q.2.2.2.2 y) a.2.2.1 (mzL S t f v m j a).2.2.1 := sorry
def rch (S : SF) (h : He) : Nat → Nat → Nat → Prop
  | 0, _, _ => False
  | c + 1, r, x => x = r ∨ ∃ j, j < fCt S (h.2.1 r) ∧ S 12 (h.2.1 r) j = 12 ∧ ∃ q ∈ h.2.2.1 r j, rch S h c q.2.2.2.2 x
theorem mzA_d (dn : hDn S h al) (hi : hI S h) (hD : ∀ r, r < h.1 → al r = true → ∀ j, j < fCt S (h.2.1 r) → S 12 (h.2.1 r) j = 12 → ∀ q ∈ h.2.2.1 r j, D q.2.2.2.2 = D r + 1) : ∀ (c r dp : Nat) (a : Ac), r < h.1 → al r = true → h.1 ≤ r + c → D r = dp → dO D h.1 (rch S h c r) a.2.2.1 (mzA S h c r dp a).2.2.1 := sorry
theorem rch.up : ∀ {c r x : Nat}, rch S h c r x → rch S h (c + 1) r x := sorry
theorem rch.le {c c' r x : Nat} (e : rch S h c r x) (l : c ≤ c') : rch S h c' r x := sorry
theorem rch.ext {x y j : Nat} {q : It} (hj : j < fCt S (h.2.1 x)) (k : S 12 (h.2.1 x) j = 12) (hq : q ∈ h.2.2.1 x j) (e : q.2.2.2.2 = y) : ∀ {c r : Nat}, rch S h c r x → rch S h (c + 1) r y := sorry
theorem rch_all (no : noOr S h.1 (fun _ => true) h.2.1 h.2.2.1 (fun _ => False)) (dn : hDn S h (fun _ => true)) : ∀ (m x : Nat), x ≤ m → x < h.1 → rch S h (x + 1) 0 x := sorry
theorem dpS_is {M : Int} (no : noOr S h.1 (fun _ => true) h.2.1 h.2.2.1 (fun _ => False)) (dn : hDn S h (fun _ => true)) (hi : hI S h) (h0 : 0 < h.1) (hD : ∀ r, r < h.1 → ∀ j, j < fCt S (h.2.1 r) → S 12 (h.2.1 r) j = 12 → ∀ q ∈ h.2.2.1 r j, D q.2.2.2.2 = D r + 1) (D0 : D 0 = 1) (m1 : ∀ x, x < h.1 → D x ≤ M) (m2 : ∃ x, x < h.1 ∧ M = D x) : dpS S h = M := sorry
theorem itsE.mze {R : Nat → Nat → Prop} {f f' : Nat → Ac → Ac} {m3 k9 bb rc : Bool} (hf : rc = true → ∀ x y, R x y → f x = f' y) : ∀ {L L' : List It}, itsE R rc L L' → ∀ a, mzI f m3 k9 bb rc L a = mzI f' m3 k9 bb rc L' a := sorry
theorem itsE.mzf {R : Nat → Nat → Prop} {f f' : Nat → Ac → Ac} {t j : Nat} {L L' : List It} {a : Ac} (hf : S 12 t j = 12 → ∀ x y, R x y → f x = f' y) (e : itsE R (decide (S 12 t j = 12)) L L') : mzF1 S t j f L a = mzF1 S t j f' L' a := sorry
theorem eqT.mza : ∀ {f r r' : Nat}, eqT S h g f r r' → ∀ dp a, mzA S h f r dp a = mzA S g f r' dp a := sorry
theorem mzI_to {f f' : Nat → Ac → Ac} {m3 k9 bb rc : Bool} : ∀ {L : List It}, (rc = true → ∀ q ∈ L, f q.2.2.2.2 = f' q.2.2.2.2) → itsE (fun x y => x = y ∧ f x = f' y) rc L L := sorry
theorem mzA_st (dn : hDn S h al) : ∀ (c c' r dp : Nat) (a : Ac), r < h.1 → al r = true → h.1 ≤ r + c → h.1 ≤ r + c' → mzA S h c r dp a = mzA S h c' r dp a := sorry
theorem hEq.dp {al' : Nat → Bool} (e : hEq S h g) (dn : hDn S h al) (a0 : al 0 = true) (h0 : 0 < h.1) (dn' : hDn S g al') (a0' : al' 0 = true) (g0 : 0 < g.1) : dpS S h = dpS S g ∧ stS S h = stS S g := sorry
end Dp
end
section
section Td
variable {μ μ' μ0 : ab_M} {d : Nat} {S : SF} {N : NF} {m s n uM pM : Nat} {h : He} {ε : Nat → Nat} {W : Nat → List We} {c uc : Nat → List Nat} {own : Nat → Nat}
def frD (μ μ' : ab_M) : Prop := ∀ a i, a ≠ 7899 → μ' a i = μ a i
theorem tw_dp84 {M : Int} {e : Nat} (he : e < 73600) (m16 : m < 16) {v : Int} (v1 : -1000 < v) (v2 : v < 100000) : ∀ (cL : List Nat) (x : Int) (μ : ab_M), tSg μ x cL (-2) → (∀ i ∈ cL, i < 73600 ∧ i ≠ e) → μ 7899 e = v → ∃ μ', (ab_run wt (d + 1) 35 84 [(2, 7756), (0, m), (0, M), (0, e), (0, x)] [] μ) = (ab_run wt (d + 1) 35 19 [(2, 7756), (0, m), (0, M), (0, (((e + 1 : Nat) : Int))), (3, 0)] [] μ') ∧ (∀ i ∈ cL, μ' 7899 i = v + 1) ∧ frD μ μ' ∧ ∀ i, i ∉ cL → μ' 7899 i = μ 7899 i := sorry
theorem tUs_mem {i : Nat} : ∀ {c : List Nat} {U : List Un}, tUs μ m pM c U → i ∈ c → ∃ x ∈ U, μ 7869 i = -3 := sorry
def dpI (m n : Nat) (ε : Nat → Nat) (c : Nat → List Nat) (μ : ab_M) (i : Nat) (M : Int) : Prop := μ 7899 (4600 * m) = 1 ∧ (∀ p, p < n → ε p < i → (∀ x ∈ c p, μ 7899 x = μ 7899 (ε p) + 1) ∧ μ 7899 (ε p) ≤ M ∧ 1 ≤ μ 7899 (ε p) ∧ μ 7899 (ε p) ≤ p + 1) ∧ (M = 1 ∨ ∃ p, p < n ∧ ε p < i ∧ M = μ 7899 (ε p))
theorem tw_dp19 (ts : TS μ0 s S N) (H : tH S μ0 m s h.1 (fun _ => true) h.2.1 h.2.2.1 h.2.2.2 ε W c uc own uM pM) (fu : tFu m uM h.1 ε c uc) : ∀ (k i : Nat) (M : Int) (μ : ab_M), i + k = 4600 * m + uM → 4600 * m ≤ i → frD μ0 μ → dpI m h.1 ε c μ i M → ∃ (M' : Int) (μ' : ab_M), (ab_run wt (d + 2) 35 19 [(2, 7756), (0, m), (0, M), (0, i), (3, 0)] [] μ) = some ((0, M'), μ') ∧ frD μ0 μ' ∧ dpI m h.1 ε c μ' (4600 * m + uM) M' := sorry
theorem tw_deepest (ts : TS μ s S N) (t : TF S μ m s h ε uM pM) (no : noOr S h.1 (fun _ => true) h.2.1 h.2.2.1 (fun _ => False)) (hi : hI S h) : R0 (ab_run wt (d + 2) 35 0 [(2, 7756), (0, m), (3, 0), (3, 0), (3, 0)] [] μ) (fun v μ' => v = dpS S h ∧ frD μ μ') := sorry
theorem tw_uk10 {E : Nat} (m16 : m < 16) (uM4 : uM ≤ 4600) (hE : E = 4600 * m + uM) (hu : μ 7867 m = uM) : ∀ (k i : Nat) (v : Int), i + k = E → 4600 * m < i → 0 ≤ v → v + k < 100000 → (ab_run wt (d + 1) 315 10 [(2, 7756), (0, m), (0, v), (0, i)] [] μ) = some ((0, v + (((List.range k).filter fun x => decide (μ 7869 (i + x) = -3)).length : Int)), μ) := sorry
theorem sumK_1 : ∀ L : List Nat, sumK (fun _ => 1) L = L.length := sorry
theorem tw_unknowns (t : TF S μ m s h ε uM pM) (ts : TS μ s S N) (no : noOr S h.1 (fun _ => true) h.2.1 h.2.2.1 (fun _ => False)) : (ab_run wt (d + 1) 315 0 [(2, 7756), (0, m), (3, 0), (3, 0)] [] μ) = some ((0, stS S h), μ) := sorry
end Td
end
section
section Tl
variable {μ μ' μ'' : ab_M} {d : Nat} {S : SF} {N : NF} {k s bs : Nat} {h g : He}
def mC (S : SF) (N : NF) (μ : ab_M) (k s bs : Nat) (h : He) : Prop := cSto S N μ (6314 + 27 * k) 402 402 2008 s bs h ∧ hWell S h ∧ hDn S h (fun _ => true) ∧ vlS S h ≤ 400 ∧ btS S h ≤ 2000 ∧ hNm S h ∧ dpS S h ≤ 12
def mT (S : SF) (N : NF) (μ : ab_M) (k s : Nat) (h : He) : Prop := TS μ s S N ∧ (∃ ε uM pM, TF S μ k s h ε uM pM ∧ TC S μ k h.1 (fun _ => true) h.2.1 h.2.2.1 h.2.2.2) ∧ noOr S h.1 (fun _ => true) h.2.1 h.2.2.1 (fun _ => False) ∧ hWell S h ∧ hDn S h (fun _ => true) ∧ vlS S h ≤ 400 ∧ btS S h ≤ 2000 ∧ hNm S h ∧ dpS S h ≤ 12
def tdV (S : SF) (h : He) (s : Nat) (x : Int) : Int := if x = 0 then s else if x = 1 then h.2.1 0 else if x = 2 then vlS S h else if x = 3 then btS S h else if x = 4 then dpS S h else stS S h
theorem tdV_eq (e : hEq S h g) (w : hWell S h) (dn : hDn S h (fun _ => true)) (w' : hWell S g) (dn' : hDn S g (fun _ => true)) {x : Int} : tdV S h s x = tdV S g s x := sorry
theorem c_told {D : Nat} {x : Int} (hD : 500 ≤ D) (hk : k < 12) (hx : 0 ≤ x ∧ x < 6) (fl : μ (6314 + 27 * k) 0 = 0 ∨ μ (6314 + 27 * k) 0 = 1 ∧ mC S N μ k s bs h) :
    R0 (ab_run wc ((D + 1)) 556 0 [(2, 1), (0, k), (0, x)] [] μ) (fun v μ' => v = (if μ (6314 + 27 * k) 0 = 0 then -2 else tdV S h s x) ∧ frE μ μ') := sorry
theorem tw_told {x : Int} (hk : k < 12) (hx : 0 ≤ x ∧ x < 6) (fl : μ 7862 k = 0 ∨ μ 7862 k = 1 ∧ mT S N μ k s h) :
    R0 (ab_run wt (d + 3) 305 0 [(2, 7756), (0, k), (0, x)] [] μ) (fun v μ' => v = (if μ 7862 k = 0 then -2 else tdV S h s x) ∧ frD μ μ') := sorry
theorem c_copy {D k2 : Nat} (hD : 6000 ≤ D) (hk : k < 12) (hk2 : k2 < 12) (fl : μ (6314 + 27 * k) 0 = 0 ∨ μ (6314 + 27 * k) 0 = 1 ∧ mC S N μ k s bs h) :
    R0 (ab_run wc ((D + 1)) 383 0 [(2, 1), (0, k), (0, k2)] [] μ) (fun v μ' => if μ (6314 + 27 * k) 0 = 0 then v = -2 ∧ μ' = μ else v = 1 ∧ μ' (6314 + 27 * k2) 0 = 1 ∧ (∃ h', mC S N μ' k2 s bs h' ∧ hEq S h h' ∧ mE S h') ∧ ∀ a, ¬ inM 1255 a → ¬ inM (6314 + 27 * k2) a → ∀ i, μ' a i = μ a i) := sorry
theorem tw_copy {k2 : Nat} (hk : k < 12) (hk2 : k2 < 12) (rz : rtZ μ k2) (fl : μ 7862 k = 0 ∨ μ 7862 k = 1 ∧ mT S N μ k s h) :
    R0 (ab_run wt (d + 6) 27 0 [(2, 7756), (0, k), (0, k2)] [] μ) (fun v μ' => if μ 7862 k = 0 then v = -2 ∧ μ' = μ else v = 1 ∧ μ' 7862 k2 = 1 ∧ (∃ h', mT S N μ' k2 s h' ∧ hEq S h h') ∧ ∀ x i, ¬ mine k2 x i → (x < 7862 ∨ 7864 < x ∨ i ≠ k2) → x ≠ 7885 → x ≠ 7886 → μ' x i = μ x i) := sorry
theorem c_drop (hk : k < 12) : (ab_run wc (d + 2) 394 0 [(2, 1), (0, k)] [] μ) = (if μ (6314 + 27 * k) 0 = 0 then some ((0, -2), μ) else some ((0, 1), ab_up μ (6314 + 27 * k) 0 0)) := sorry
theorem tw_drop (hk : k < 12) : (ab_run wt (d + 2) 42 0 [(2, 7756), (0, k)] [] μ) = (if μ 7862 k = 0 then some ((0, -2), μ) else some ((0, 1), ab_up μ 7862 k 0)) := sorry
end Tl
end
section
section Bt
theorem o64_msb {x : Int} (h : -9223372036854775808 ≤ x) (h2 : x < 9223372036854775808) : (Int64.ofInt x).toBitVec.msb = decide (x < 0) := sorry
theorem i64_neg (x : Int64) : (x.toInt < 0) ↔ x.toBitVec.msb = true := sorry
theorem i64_rg (x : Int64) : -9223372036854775808 ≤ x.toInt ∧ x.toInt < 9223372036854775808 := sorry
theorem and64_neg {a b : Int} (h : -9223372036854775808 ≤ a) (h2 : a < 9223372036854775808) (g : -9223372036854775808 ≤ b) (g2 : b < 9223372036854775808) : and64 a b < 0 ↔ a < 0 ∧ b < 0 := sorry
theorem or64_neg {a b : Int} (h : -9223372036854775808 ≤ a) (h2 : a < 9223372036854775808) (g : -9223372036854775808 ≤ b) (g2 : b < 9223372036854775808) : or64 a b < 0 ↔ a < 0 ∨ b < 0 := sorry
theorem xor64_m1 {a : Int} (h : -9223372036854775808 ≤ a) (h2 : a < 9223372036854775808) : xor64 a (-1) = -1 - a := sorry
theorem and64_rg (a b : Int) : -9223372036854775808 ≤ and64 a b ∧ and64 a b < 9223372036854775808 := sorry
theorem or64_rg (a b : Int) : -9223372036854775808 ≤ or64 a b ∧ or64 a b < 9223372036854775808 := sorry
theorem xor64_0 {a : Int} (h : -9223372036854775808 ≤ a) (h2 : a < 9223372036854775808) : xor64 a 0 = a := sorry
theorem ushr64_u {x : Int} {k : Nat} (k1 : 1 ≤ k) (hk : k < 64) : ushr64 x k = x % 18446744073709551616 / 2 ^ k := sorry
theorem ushr64_63 {x : Int} (h : -9223372036854775808 ≤ x) (h2 : x < 9223372036854775808) : ushr64 x 63 = if x < 0 then 1 else 0 := sorry
theorem shr64_63 {x : Int} (h : -9223372036854775808 ≤ x) (h2 : x < 9223372036854775808) : shr64 x 63 = if x < 0 then -1 else 0 := sorry
theorem shl64_w {x : Int} {k : Nat} (hk : k < 64) : shl64 x k = w64 (x * 2 ^ k) := sorry
theorem i64_of (b : BitVec 64) : b.toInt = w64 (b.toNat : Int) := sorry
theorem w64_of {x y : Int} (h : x % 18446744073709551616 = y % 18446744073709551616) : w64 x = w64 y := sorry
theorem w64_rr (x : Int) : -9223372036854775808 ≤ w64 x ∧ w64 x < 9223372036854775808 := sorry
theorem w64_mod (x : Int) : w64 x % 18446744073709551616 = x % 18446744073709551616 := sorry
theorem w64_in {x : Int} (h : -9223372036854775808 ≤ x) (h2 : x < 9223372036854775808) : w64 x = x := sorry
theorem or64_hi {a b : Int} {k c : Nat} (ha : a % 18446744073709551616 < 2 ^ k) (hb : b % 18446744073709551616 = c * 2 ^ k) : or64 a b = w64 (a + b) := sorry
theorem and64_m128 (x : Int) : and64 x (-128) = w64 (x - x % 128) := sorry
theorem m128_0 {x : Int} (h : -9223372036854775808 ≤ x) (h2 : x < 9223372036854775808) : and64 x (-128) = 0 ↔ x % 18446744073709551616 < 128 := sorry
theorem or32_128 {c : Int} (h : 0 ≤ c) (h2 : c < 128) : or32 c 128 = c + 128 := sorry
end Bt
end
section
section Ud
variable {μ : ab_M} {d : Nat}
theorem ud_key {x y : Int} (h : -9223372036854775808 ≤ x) (h2 : x < 9223372036854775808) (y1 : 0 < y) (y2 : y < 9223372036854775808) :
    ∃ q0 R : Int, ushr64 x 1 = x % 18446744073709551616 / 2 ∧ Int.tdiv (x % 18446744073709551616 / 2) y = q0 ∧ (0 ≤ q0 ∧ q0 < 9223372036854775808) ∧ x % 18446744073709551616 = 2 * (q0 * y) + R ∧ 0 ≤ R ∧ R < 2 * y ∧ w64 (x - w64 (w64 (2 * q0) * y)) = w64 R := sorry
theorem ediv_is {a b q : Int} (hb : 0 < b) (h1 : q * b ≤ a) (h2 : a < (q + 1) * b) : a / b = q := sorry
theorem udivL {x y : Int} (h : -9223372036854775808 ≤ x) (h2 : x < 9223372036854775808) (y0 : -9223372036854775808 ≤ y) (y2 : y < 9223372036854775808) (yn : y ≠ 0) :
    (ab_run wc (d + 1) 345 0 [(1, x), (3, 0), (1, y), (3, 0), (3, 0), (3, 0), (3, 0), (3, 0)] [] μ) = some ((1, w64 (x % 18446744073709551616 / (y % 18446744073709551616))), μ) := sorry
theorem uremL {x : Int} (h : -9223372036854775808 ≤ x) (h2 : x < 9223372036854775808) : (ab_run wc (d + 1) 346 0 [(1, x), (3, 0), (1, 10), (3, 0), (3, 0), (3, 0), (3, 0), (3, 0)] [] μ) = some ((1, x % 18446744073709551616 % 10), μ) := sorry
theorem ucmpL {x y : Int} (h : -9223372036854775808 ≤ x) (h2 : x < 9223372036854775808) (y0 : -9223372036854775808 ≤ y) (y2 : y < 9223372036854775808) : (ab_run wc (d + 2) 344 0 [(1, x), (3, 0), (1, y), (3, 0)] [] μ) = some ((0, if x % 18446744073709551616 < y % 18446744073709551616 then -1 else if x = y then 0 else 1), μ) := sorry
end Ud
end
section
section Ou
variable {μ μ' μ'' : ab_M} {d ra ba cap : Nat} {O l : List Int} {x : Int}
def cOu (μ : ab_M) (ra ba cap : Nat) (O : List Int) : Prop := (O.length ≤ cap → cRow μ ra ba cap O ∧ μ 1 22 = 1) ∧ (cap < O.length → (∃ l, cRow μ ra ba cap l) ∧ μ 1 22 = 0)
def frU (ra ba : Nat) (μ μ' : ab_M) : Prop := ∀ a i, (a ≠ ra ∨ i ≠ 1) → a ≠ ba → (a ≠ 1 ∨ i ≠ 22) → μ' a i = μ a i
theorem frU.refl : frU ra ba μ μ := sorry
theorem frU.trans (f : frU ra ba μ μ') (g : frU ra ba μ' μ'') : frU ra ba μ μ'' := sorry
theorem pp_is : isRw 1310 1311 4000 := sorry
theorem br_is : isRw 1312 1313 16000 := sorry
def isO (ra ba cap : Nat) : Prop := (ra = 1310 ∧ ba = 1311 ∧ cap = 4000) ∨ (ra = 1312 ∧ ba = 1313 ∧ cap = 16000)
theorem isO.rw (h : isO ra ba cap) : isRw ra ba cap := sorry
theorem isO.rg (h : isO ra ba cap) : 1310 ≤ ra ∧ ra ≤ 1312 ∧ 1311 ≤ ba ∧ ba ≤ 1313 ∧ ra ≠ ba ∧ cap ≤ 16000 ∧ 4000 ≤ cap := sorry
theorem and32_11 : and32 1 1 = 1 := sorry
theorem and32_10 : and32 1 0 = 0 := sorry
theorem and32_01 : and32 0 1 = 0 := sorry
theorem and32_00 : and32 0 0 = 0 := sorry
theorem cRow.f (c : cRow μ ra ba cap l) (h : isO ra ba cap) {v : Int} : cRow (ab_up μ 1 22 v) ra ba cap l := sorry
theorem c_putO (h : isO ra ba cap) (c : cOu μ ra ba cap O) : ∃ v μ', (ab_run wc (d + 1) 654 0 [(2, ra), (0, x)] [] μ) = some ((0, v), μ') ∧ μ' 1 22 = μ 1 22 ∧ (and32 (μ 1 22) v = 0 ∨ and32 (μ 1 22) v = 1) ∧ cOu (ab_up μ' 1 22 (and32 (μ 1 22) v)) ra ba cap (O ++ [x % 256]) ∧ frU ra ba μ (ab_up μ' 1 22 (and32 (μ 1 22) v)) := sorry
theorem c_putsO {b o lb : Nat} (h : isO ra ba cap) (c : cOu μ ra ba cap O) (hb : wc_ar b = (4, lb)) (h1 : o + l.length ≤ lb) (h2 : cBy μ b o l) (h3 : l.length < 100000) : ∃ v μ', (ab_run wc (d + 1) 655 0 [(2, ra), (2, b), (0, o), (0, (l.length))] [] μ) = some ((0, v), μ') ∧ μ' 1 22 = μ 1 22 ∧ (and32 (μ 1 22) v = 0 ∨ and32 (μ 1 22) v = 1) ∧ cOu (ab_up μ' 1 22 (and32 (μ 1 22) v)) ra ba cap (O ++ l) ∧ frU ra ba μ (ab_up μ' 1 22 (and32 (μ 1 22) v)) := sorry
def cO (run : ab_R) (μ : ab_M) (ra ba cap : Nat) (O : List Int) : Prop := R3 run (fun μ' => cOu μ' ra ba cap O ∧ frU ra ba μ μ')
theorem c_printByte (c : cOu μ 1310 1311 4000 O) : cO (ab_run wc (d + 2) 472 0 [(2, 1), (0, x)] [] μ) μ 1310 1311 4000 (O ++ [x % 256]) := sorry
theorem c_printBytes {b o lb : Nat} (c : cOu μ 1310 1311 4000 O) (hb : wc_ar b = (4, lb)) (h1 : o + l.length ≤ lb) (h2 : cBy μ b o l) (h3 : l.length < 100000) : cO (ab_run wc (d + 2) 473 0 [(2, 1), (2, b), (0, o), (0, (l.length))] [] μ) μ 1310 1311 4000 (O ++ l) := sorry
theorem c_putByte (h : isO ra ba cap) (ho : μ 1 24 = ra) (c : cOu μ ra ba cap O) : cO (ab_run wc (d + 2) 479 0 [(2, 1), (0, x)] [] μ) μ ra ba cap (O ++ [x % 256]) := sorry
theorem c_putBytes {b o lb : Nat} (h : isO ra ba cap) (ho : μ 1 24 = ra) (c : cOu μ ra ba cap O) (hb : wc_ar b = (4, lb)) (h1 : o + l.length ≤ lb) (h2 : cBy μ b o l) (h3 : l.length < 100000) : cO (ab_run wc (d + 2) 480 0 [(2, 1), (2, b), (0, o), (0, (l.length))] [] μ) μ ra ba cap (O ++ l) := sorry
def tOu (μ : ab_M) (O : List Int) : Prop := μ 7756 172 = O.length ∧ ∀ (i : Nat) (x : Int), i < 60000 → O[i]? = some x → μ 7887 i = x
def frM2 (μ μ' : ab_M) : Prop := ∀ a i, a ≠ 7887 → (a ≠ 7756 ∨ i ≠ 172) → μ' a i = μ a i
theorem frM2.refl : frM2 μ μ := sorry
theorem frM2.trans (f : frM2 μ μ') (g : frM2 μ' μ'') : frM2 μ μ'' := sorry
theorem tw_emit (c : tOu μ O) (ln : O.length < 2147483647) : R3 (ab_run wt (d + 1) 43 0 [(2, 7756), (0, x)] [] μ) (fun μ' => tOu μ' (O ++ [x % 256]) ∧ frM2 μ μ') := sorry
end Ou
end
section
section De
variable {μ μ' μ'' : ab_M} {d : Nat} {O : List Int} {u : Nat}
def dgs (u : Nat) : Nat → List Int
  | 0 => [((48 + u % 10 : Nat) : Int)]
  | k + 1 => ((48 + u / 10 ^ (k + 1) % 10 : Nat) : Int) :: dgs u k
def kdg (u : Nat) : Nat → Nat → Nat
  | 0, k => k
  | f + 1, k => if u / 10 ^ k < 10 then k else kdg u f (k + 1)
def decL (u : Nat) : List Int := dgs u (kdg u 19 0)
theorem p10 {k : Nat} (h : k ≤ 19) : 1 ≤ 10 ^ k ∧ 10 ^ k ≤ 10000000000000000000 := sorry
theorem cO.seq {f : ab_M → ab_R} {run : ab_R} {O1 O2 : List Int} (a : cO run μ 1310 1311 4000 O1) (b : ∀ μ', cOu μ' 1310 1311 4000 O1 → frU 1310 1311 μ μ' → cO (f μ') μ' 1310 1311 4000 O2) : cO (ab_cal run 3 (fun r1 μ1 => some ((4, r1), μ1)) (fun _ μ1 => f μ1)) μ 1310 1311 4000 O2 := sorry
theorem w64_n {u : Nat} (hu : u < 18446744073709551616) : w64 (u : Int) % 18446744073709551616 = u := sorry
theorem w64_0 {u : Nat} (hu : u < 18446744073709551616) : w64 (u : Int) = 0 ↔ u = 0 := sorry
theorem cO.to {run run' : ab_R} {ra ba cap : Nat} {O1 O2 : List Int} (a : cO run μ ra ba cap O1) (e : run' = run) (h : O1 = O2) : cO run' μ ra ba cap O2 := sorry
theorem c_pnS {U : Nat} (hu : u < 18446744073709551616) (u1 : 1 ≤ U) (u2 : U < 18446744073709551616) : (ab_run wc (d + 3) 474 123 [(2, 1), (3, 0), (3, 0), (3, 0), (1, (w64 (u : Int))), (3, 0), (1, (w64 (U : Int))), (3, 0)] [] μ) = ab_cal (ab_run wc (d + 2) 472 0 [(2, 1), (0, (((48 + u / U % 10 : Nat) : Int)))] [] μ) 3 (fun r1 μ1 => some ((4, r1), μ1)) (fun _ μ1 => (ab_run wc (d + 3) 474 123 [(2, 1), (3, 0), (3, 0), (3, 0), (1, (w64 (u : Int))), (3, 0), (1, (w64 ((U / 10 : Nat) : Int))), (3, 0)] [] μ1)) := sorry
theorem c_pn123 (hu : u < 18446744073709551616) : ∀ (k : Nat) (μ : ab_M) (O : List Int), k ≤ 19 → cOu μ 1310 1311 4000 O → cO (ab_run wc (d + 3) 474 123 [(2, 1), (3, 0), (3, 0), (3, 0), (1, (w64 (u : Int))), (3, 0), (1, (w64 ((10 ^ k : Nat) : Int))), (3, 0)] [] μ) μ 1310 1311 4000 (O ++ dgs u k) := sorry
theorem c_pn96 (hu : u < 18446744073709551616) : ∀ (f k : Nat) (μ : ab_M) (O : List Int), f + k = 19 → cOu μ 1310 1311 4000 O → cO (ab_run wc (d + 3) 474 96 [(2, 1), (3, 0), (3, 0), (3, 0), (1, (w64 (u : Int))), (3, 0), (1, (w64 ((10 ^ k : Nat) : Int))), (3, 0)] [] μ) μ 1310 1311 4000 (O ++ dgs u (kdg u f k)) := sorry
theorem tOu.len (c : tOu μ O) : True := sorry
theorem tw_seq {f : ab_M → ab_R} {run : ab_R} {O1 O2 : List Int} (a : R3 run (fun μ' => tOu μ' O1 ∧ frM2 μ μ')) (b : ∀ μ', tOu μ' O1 → frM2 μ μ' → R3 (f μ') (fun μ'' => tOu μ'' O2 ∧ frM2 μ' μ'')) : R3 (ab_cal run 3 (fun r1 μ1 => some ((4, r1), μ1)) (fun _ μ1 => f μ1)) (fun μ' => tOu μ' O2 ∧ frM2 μ μ') := sorry
theorem dgs_len : ∀ k, (dgs u k).length = k + 1 := sorry
theorem tw_p21 (hu : u < 9223372036854775808) : ∀ (k : Nat) (μ : ab_M) (O : List Int), k ≤ 18 → tOu μ O → O.length + k < 2147483646 → R3 (ab_run wt (d + 2) 232 21 [(2, 7756), (1, ((u : Int))), (3, 0), (1, (((10 ^ k : Nat) : Int))), (3, 0)] [] μ) (fun μ' => tOu μ' (O ++ dgs u k) ∧ frM2 μ μ') := sorry
theorem kdg_le : ∀ (f k : Nat), kdg u f k ≤ k + f := sorry
theorem tw_p2 (hu : u < 9223372036854775808) : ∀ (f k : Nat) (μ : ab_M) (O : List Int), f + k = 19 → k ≤ 18 → tOu μ O → O.length < 2147480000 → R3 (ab_run wt (d + 2) 232 2 [(2, 7756), (1, ((u : Int))), (3, 0), (1, (((10 ^ k : Nat) : Int))), (3, 0)] [] μ) (fun μ' => tOu μ' (O ++ dgs u (kdg u f k)) ∧ frM2 μ μ') := sorry
theorem tw_putNumber2 (hu : u < 9223372036854775808) (c : tOu μ O) (ln : O.length < 2147480000) : R3 (ab_run wt (d + 2) 232 0 [(2, 7756), (1, ((u : Int))), (3, 0), (3, 0), (3, 0)] [] μ) (fun μ' => tOu μ' (O ++ decL u) ∧ frM2 μ μ') := sorry
theorem decL_len (u : Nat) : (decL u).length ≤ 20 := sorry
end De
end
