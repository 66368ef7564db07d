/-! PURE LAYER: worth to a set does not hang on the store -/
set_option maxRecDepth 100000
theorem worth_ind {hb : Nat} {hu : hd_T} {κ κ' : kp_K} {v : Int32} (h : κ.2.2 0 4 = some hb) (h' : κ'.2.2 0 4 = some hb) : pX1_worth hb hu κ v = pX1_worth hb hu κ' v := by
  unfold pX1_worth
  rw [h, h']
theorem share_ind {F hb : Nat} {hu : hd_T} {κ κ' : kp_K} (h : κ.2.2 0 4 = some hb) (h' : κ'.2.2 0 4 = some hb) : ∀ fx v1 v2 v3 v4 v5, bX1_shareOf_6 F hb hu fx κ v1 v2 v3 v4 v5 = bX1_shareOf_6 F hb hu fx κ' v1 v2 v3 v4 v5 := by
  intro fx
  induction fx with
  | zero => intro v1 v2 v3 v4 v5; rfl
  | succ fx ih =>
    intro v1 v2 v3 v4 v5
    have hw : ∀ v, pX1_worth hb hu κ v = pX1_worth hb hu κ' v := fun v => worth_ind h h'
    rw [bX1_shareOf_6, bX1_shareOf_6, h, h']
    unfold bX1_shareOf_102 bX1_shareOf_103 bX1_shareOf_129 bX1_shareOf_139 bX1_shareOf_147
    simp only [ih, hw]
