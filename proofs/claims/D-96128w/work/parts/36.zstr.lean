/-! ===== the premise's leaves; statics; String constants ===== -/
set_option maxRecDepth 100000
theorem n_l {A B : Cond} {a : Array Value} {s : State} (h : (Cond.and A B).before a s = true) : A.before a s = true := by
  rw [Cond.before_and, Bool.and_eq_true] at h
  exact h.1
theorem n_r {A B : Cond} {a : Array Value} {s : State} (h : (Cond.and A B).before a s = true) : B.before a s = true := by
  rw [Cond.before_and, Bool.and_eq_true] at h
  exact h.2
theorem nw_ex0 {a : Array Value} {s : State} (h : (Jvm.Cond.and given_1 narrow_1).before a s = true) : (Jvm.Cond.exactly (Jvm.Term.string "FewerManModel" (116 : Nat)) "java/lang/String").before a s = true := (n_l (n_r (n_r (n_r (n_r (n_l (n_l (n_r (n_r h)))))))))
theorem nw_co0 {a : Array Value} {s : State} (h : (Jvm.Cond.and given_1 narrow_1).before a s = true) : (Jvm.Cond.eq (Jvm.Term.field (Jvm.Term.string "FewerManModel" (116 : Nat)) "java/lang/String" "coder" "B") (Jvm.Term.int (0 : Int32))).before a s = true := (n_r (n_r (n_r (n_r (n_r (n_l (n_l (n_r (n_r h)))))))))
theorem nw_ar0 {a : Array Value} {s : State} (h : (Jvm.Cond.and given_1 narrow_1).before a s = true) : (Jvm.Cond.arrayOf (Jvm.Term.field (Jvm.Term.string "FewerManModel" (116 : Nat)) "java/lang/String" "value" "[B") Jvm.ClassFile.FieldType.byte).before a s = true := (n_l (n_l (n_l (n_l (n_r (n_l (n_r (n_r h))))))))
theorem nw_le0 {a : Array Value} {s : State} (h : (Jvm.Cond.and given_1 narrow_1).before a s = true) : (Jvm.Cond.eq (Jvm.Term.length (Jvm.Term.field (Jvm.Term.string "FewerManModel" (116 : Nat)) "java/lang/String" "value" "[B")) (Jvm.Term.int (4 : Int32))).before a s = true := (n_r (n_l (n_l (n_l (n_r (n_l (n_r (n_r h))))))))
theorem nw_el0_0 {a : Array Value} {s : State} (h : (Jvm.Cond.and given_1 narrow_1).before a s = true) : (Jvm.Cond.eq (Jvm.Term.elem (Jvm.Term.field (Jvm.Term.string "FewerManModel" (116 : Nat)) "java/lang/String" "value" "[B") (Jvm.Term.int (0 : Int32))) (Jvm.Term.int (105 : Int32))).before a s = true := (n_l (n_r (n_l (n_l (n_r (n_l (n_r (n_r h))))))))
theorem nw_el0_1 {a : Array Value} {s : State} (h : (Jvm.Cond.and given_1 narrow_1).before a s = true) : (Jvm.Cond.eq (Jvm.Term.elem (Jvm.Term.field (Jvm.Term.string "FewerManModel" (116 : Nat)) "java/lang/String" "value" "[B") (Jvm.Term.int (1 : Int32))) (Jvm.Term.int (102 : Int32))).before a s = true := (n_l (n_r (n_r (n_l (n_l (n_r (n_l (n_r (n_r h)))))))))
theorem nw_el0_2 {a : Array Value} {s : State} (h : (Jvm.Cond.and given_1 narrow_1).before a s = true) : (Jvm.Cond.eq (Jvm.Term.elem (Jvm.Term.field (Jvm.Term.string "FewerManModel" (116 : Nat)) "java/lang/String" "value" "[B") (Jvm.Term.int (2 : Int32))) (Jvm.Term.int (116 : Int32))).before a s = true := (n_r (n_r (n_r (n_l (n_l (n_r (n_l (n_r (n_r h)))))))))
theorem nw_el0_3 {a : Array Value} {s : State} (h : (Jvm.Cond.and given_1 narrow_1).before a s = true) : (Jvm.Cond.eq (Jvm.Term.elem (Jvm.Term.field (Jvm.Term.string "FewerManModel" (116 : Nat)) "java/lang/String" "value" "[B") (Jvm.Term.int (3 : Int32))) (Jvm.Term.int (32 : Int32))).before a s = true := (n_l (n_l (n_r (n_l (n_r (n_l (n_r (n_r h))))))))
theorem nw_ex1 {a : Array Value} {s : State} (h : (Jvm.Cond.and given_1 narrow_1).before a s = true) : (Jvm.Cond.exactly (Jvm.Term.string "FewerManModel" (98 : Nat)) "java/lang/String").before a s = true := (n_l (n_r (n_l (n_r (n_l (n_r (n_l (n_r (n_r h)))))))))
theorem nw_co1 {a : Array Value} {s : State} (h : (Jvm.Cond.and given_1 narrow_1).before a s = true) : (Jvm.Cond.eq (Jvm.Term.field (Jvm.Term.string "FewerManModel" (98 : Nat)) "java/lang/String" "coder" "B") (Jvm.Term.int (0 : Int32))).before a s = true := (n_r (n_r (n_l (n_r (n_l (n_r (n_l (n_r (n_r h)))))))))
theorem nw_ar1 {a : Array Value} {s : State} (h : (Jvm.Cond.and given_1 narrow_1).before a s = true) : (Jvm.Cond.arrayOf (Jvm.Term.field (Jvm.Term.string "FewerManModel" (98 : Nat)) "java/lang/String" "value" "[B") Jvm.ClassFile.FieldType.byte).before a s = true := (n_l (n_r (n_r (n_l (n_r (n_l (n_r (n_r h))))))))
theorem nw_le1 {a : Array Value} {s : State} (h : (Jvm.Cond.and given_1 narrow_1).before a s = true) : (Jvm.Cond.eq (Jvm.Term.length (Jvm.Term.field (Jvm.Term.string "FewerManModel" (98 : Nat)) "java/lang/String" "value" "[B")) (Jvm.Term.int (5 : Int32))).before a s = true := (n_l (n_r (n_r (n_r (n_l (n_r (n_l (n_r (n_r h)))))))))
theorem nw_el1_0 {a : Array Value} {s : State} (h : (Jvm.Cond.and given_1 narrow_1).before a s = true) : (Jvm.Cond.eq (Jvm.Term.elem (Jvm.Term.field (Jvm.Term.string "FewerManModel" (98 : Nat)) "java/lang/String" "value" "[B") (Jvm.Term.int (0 : Int32))) (Jvm.Term.int (112 : Int32))).before a s = true := (n_r (n_r (n_r (n_r (n_l (n_r (n_l (n_r (n_r h)))))))))
theorem nw_el1_1 {a : Array Value} {s : State} (h : (Jvm.Cond.and given_1 narrow_1).before a s = true) : (Jvm.Cond.eq (Jvm.Term.elem (Jvm.Term.field (Jvm.Term.string "FewerManModel" (98 : Nat)) "java/lang/String" "value" "[B") (Jvm.Term.int (1 : Int32))) (Jvm.Term.int (107 : Int32))).before a s = true := (n_l (n_l (n_l (n_r (n_r (n_l (n_r (n_r h))))))))
theorem nw_el1_2 {a : Array Value} {s : State} (h : (Jvm.Cond.and given_1 narrow_1).before a s = true) : (Jvm.Cond.eq (Jvm.Term.elem (Jvm.Term.field (Jvm.Term.string "FewerManModel" (98 : Nat)) "java/lang/String" "value" "[B") (Jvm.Term.int (2 : Int32))) (Jvm.Term.int (109 : Int32))).before a s = true := (n_l (n_r (n_l (n_l (n_r (n_r (n_l (n_r (n_r h)))))))))
theorem nw_el1_3 {a : Array Value} {s : State} (h : (Jvm.Cond.and given_1 narrow_1).before a s = true) : (Jvm.Cond.eq (Jvm.Term.elem (Jvm.Term.field (Jvm.Term.string "FewerManModel" (98 : Nat)) "java/lang/String" "value" "[B") (Jvm.Term.int (3 : Int32))) (Jvm.Term.int (111 : Int32))).before a s = true := (n_r (n_r (n_l (n_l (n_r (n_r (n_l (n_r (n_r h)))))))))
theorem nw_el1_4 {a : Array Value} {s : State} (h : (Jvm.Cond.and given_1 narrow_1).before a s = true) : (Jvm.Cond.eq (Jvm.Term.elem (Jvm.Term.field (Jvm.Term.string "FewerManModel" (98 : Nat)) "java/lang/String" "value" "[B") (Jvm.Term.int (4 : Int32))) (Jvm.Term.int (103 : Int32))).before a s = true := (n_l (n_r (n_l (n_r (n_r (n_l (n_r (n_r h))))))))
theorem nw_ne0_1 {a : Array Value} {s : State} (h : (Jvm.Cond.and given_1 narrow_1).before a s = true) : (Jvm.Cond.not (Jvm.Cond.eq (Jvm.Term.string "FewerManModel" (116 : Nat)) (Jvm.Term.string "FewerManModel" (98 : Nat)))).before a s = true := (n_l (n_r (n_r (n_l (n_r (n_r (n_l (n_r (n_r h)))))))))
theorem nw_ex2 {a : Array Value} {s : State} (h : (Jvm.Cond.and given_1 narrow_1).before a s = true) : (Jvm.Cond.exactly (Jvm.Term.string "FewerManModel" (104 : Nat)) "java/lang/String").before a s = true := (n_r (n_r (n_r (n_l (n_r (n_r (n_l (n_r (n_r h)))))))))
theorem nw_co2 {a : Array Value} {s : State} (h : (Jvm.Cond.and given_1 narrow_1).before a s = true) : (Jvm.Cond.eq (Jvm.Term.field (Jvm.Term.string "FewerManModel" (104 : Nat)) "java/lang/String" "coder" "B") (Jvm.Term.int (0 : Int32))).before a s = true := (n_l (n_l (n_r (n_r (n_r (n_l (n_r (n_r h))))))))
theorem nw_ar2 {a : Array Value} {s : State} (h : (Jvm.Cond.and given_1 narrow_1).before a s = true) : (Jvm.Cond.arrayOf (Jvm.Term.field (Jvm.Term.string "FewerManModel" (104 : Nat)) "java/lang/String" "value" "[B") Jvm.ClassFile.FieldType.byte).before a s = true := (n_l (n_r (n_l (n_r (n_r (n_r (n_l (n_r (n_r h)))))))))
theorem nw_le2 {a : Array Value} {s : State} (h : (Jvm.Cond.and given_1 narrow_1).before a s = true) : (Jvm.Cond.eq (Jvm.Term.length (Jvm.Term.field (Jvm.Term.string "FewerManModel" (104 : Nat)) "java/lang/String" "value" "[B")) (Jvm.Term.int (3 : Int32))).before a s = true := (n_r (n_r (n_l (n_r (n_r (n_r (n_l (n_r (n_r h)))))))))
theorem nw_el2_0 {a : Array Value} {s : State} (h : (Jvm.Cond.and given_1 narrow_1).before a s = true) : (Jvm.Cond.eq (Jvm.Term.elem (Jvm.Term.field (Jvm.Term.string "FewerManModel" (104 : Nat)) "java/lang/String" "value" "[B") (Jvm.Term.int (0 : Int32))) (Jvm.Term.int (60 : Int32))).before a s = true := (n_l (n_r (n_r (n_r (n_r (n_l (n_r (n_r h))))))))
theorem nw_el2_1 {a : Array Value} {s : State} (h : (Jvm.Cond.and given_1 narrow_1).before a s = true) : (Jvm.Cond.eq (Jvm.Term.elem (Jvm.Term.field (Jvm.Term.string "FewerManModel" (104 : Nat)) "java/lang/String" "value" "[B") (Jvm.Term.int (1 : Int32))) (Jvm.Term.int (61 : Int32))).before a s = true := (n_l (n_r (n_r (n_r (n_r (n_r (n_l (n_r (n_r h)))))))))
theorem nw_el2_2 {a : Array Value} {s : State} (h : (Jvm.Cond.and given_1 narrow_1).before a s = true) : (Jvm.Cond.eq (Jvm.Term.elem (Jvm.Term.field (Jvm.Term.string "FewerManModel" (104 : Nat)) "java/lang/String" "value" "[B") (Jvm.Term.int (2 : Int32))) (Jvm.Term.int (62 : Int32))).before a s = true := (n_r (n_r (n_r (n_r (n_r (n_r (n_l (n_r (n_r h)))))))))
theorem nw_ne0_2 {a : Array Value} {s : State} (h : (Jvm.Cond.and given_1 narrow_1).before a s = true) : (Jvm.Cond.not (Jvm.Cond.eq (Jvm.Term.string "FewerManModel" (116 : Nat)) (Jvm.Term.string "FewerManModel" (104 : Nat)))).before a s = true := (n_l (n_l (n_l (n_l (n_l (n_r (n_r (n_r h))))))))
theorem nw_ne1_2 {a : Array Value} {s : State} (h : (Jvm.Cond.and given_1 narrow_1).before a s = true) : (Jvm.Cond.not (Jvm.Cond.eq (Jvm.Term.string "FewerManModel" (98 : Nat)) (Jvm.Term.string "FewerManModel" (104 : Nat)))).before a s = true := (n_r (n_l (n_l (n_l (n_l (n_r (n_r (n_r h))))))))
theorem nw_ex3 {a : Array Value} {s : State} (h : (Jvm.Cond.and given_1 narrow_1).before a s = true) : (Jvm.Cond.exactly (Jvm.Term.string "FewerManModel" (122 : Nat)) "java/lang/String").before a s = true := (n_l (n_r (n_l (n_l (n_l (n_r (n_r (n_r h))))))))
theorem nw_co3 {a : Array Value} {s : State} (h : (Jvm.Cond.and given_1 narrow_1).before a s = true) : (Jvm.Cond.eq (Jvm.Term.field (Jvm.Term.string "FewerManModel" (122 : Nat)) "java/lang/String" "coder" "B") (Jvm.Term.int (0 : Int32))).before a s = true := (n_l (n_r (n_r (n_l (n_l (n_l (n_r (n_r (n_r h)))))))))
theorem nw_ar3 {a : Array Value} {s : State} (h : (Jvm.Cond.and given_1 narrow_1).before a s = true) : (Jvm.Cond.arrayOf (Jvm.Term.field (Jvm.Term.string "FewerManModel" (122 : Nat)) "java/lang/String" "value" "[B") Jvm.ClassFile.FieldType.byte).before a s = true := (n_r (n_r (n_r (n_l (n_l (n_l (n_r (n_r (n_r h)))))))))
theorem nw_le3 {a : Array Value} {s : State} (h : (Jvm.Cond.and given_1 narrow_1).before a s = true) : (Jvm.Cond.eq (Jvm.Term.length (Jvm.Term.field (Jvm.Term.string "FewerManModel" (122 : Nat)) "java/lang/String" "value" "[B")) (Jvm.Term.int (4 : Int32))).before a s = true := (n_l (n_l (n_r (n_l (n_l (n_r (n_r (n_r h))))))))
theorem nw_el3_0 {a : Array Value} {s : State} (h : (Jvm.Cond.and given_1 narrow_1).before a s = true) : (Jvm.Cond.eq (Jvm.Term.elem (Jvm.Term.field (Jvm.Term.string "FewerManModel" (122 : Nat)) "java/lang/String" "value" "[B") (Jvm.Term.int (0 : Int32))) (Jvm.Term.int (101 : Int32))).before a s = true := (n_l (n_r (n_l (n_r (n_l (n_l (n_r (n_r (n_r h)))))))))
theorem nw_el3_1 {a : Array Value} {s : State} (h : (Jvm.Cond.and given_1 narrow_1).before a s = true) : (Jvm.Cond.eq (Jvm.Term.elem (Jvm.Term.field (Jvm.Term.string "FewerManModel" (122 : Nat)) "java/lang/String" "value" "[B") (Jvm.Term.int (1 : Int32))) (Jvm.Term.int (115 : Int32))).before a s = true := (n_r (n_r (n_l (n_r (n_l (n_l (n_r (n_r (n_r h)))))))))
theorem nw_el3_2 {a : Array Value} {s : State} (h : (Jvm.Cond.and given_1 narrow_1).before a s = true) : (Jvm.Cond.eq (Jvm.Term.elem (Jvm.Term.field (Jvm.Term.string "FewerManModel" (122 : Nat)) "java/lang/String" "value" "[B") (Jvm.Term.int (2 : Int32))) (Jvm.Term.int (115 : Int32))).before a s = true := (n_l (n_r (n_r (n_l (n_l (n_r (n_r (n_r h))))))))
theorem nw_el3_3 {a : Array Value} {s : State} (h : (Jvm.Cond.and given_1 narrow_1).before a s = true) : (Jvm.Cond.eq (Jvm.Term.elem (Jvm.Term.field (Jvm.Term.string "FewerManModel" (122 : Nat)) "java/lang/String" "value" "[B") (Jvm.Term.int (3 : Int32))) (Jvm.Term.int (32 : Int32))).before a s = true := (n_l (n_r (n_r (n_r (n_l (n_l (n_r (n_r (n_r h)))))))))
theorem nw_ne0_3 {a : Array Value} {s : State} (h : (Jvm.Cond.and given_1 narrow_1).before a s = true) : (Jvm.Cond.not (Jvm.Cond.eq (Jvm.Term.string "FewerManModel" (116 : Nat)) (Jvm.Term.string "FewerManModel" (122 : Nat)))).before a s = true := (n_r (n_r (n_r (n_r (n_l (n_l (n_r (n_r (n_r h)))))))))
theorem nw_ne1_3 {a : Array Value} {s : State} (h : (Jvm.Cond.and given_1 narrow_1).before a s = true) : (Jvm.Cond.not (Jvm.Cond.eq (Jvm.Term.string "FewerManModel" (98 : Nat)) (Jvm.Term.string "FewerManModel" (122 : Nat)))).before a s = true := (n_l (n_l (n_l (n_r (n_l (n_r (n_r (n_r h))))))))
theorem nw_ne2_3 {a : Array Value} {s : State} (h : (Jvm.Cond.and given_1 narrow_1).before a s = true) : (Jvm.Cond.not (Jvm.Cond.eq (Jvm.Term.string "FewerManModel" (104 : Nat)) (Jvm.Term.string "FewerManModel" (122 : Nat)))).before a s = true := (n_l (n_r (n_l (n_l (n_r (n_l (n_r (n_r (n_r h)))))))))
theorem nw_ex4 {a : Array Value} {s : State} (h : (Jvm.Cond.and given_1 narrow_1).before a s = true) : (Jvm.Cond.exactly (Jvm.Term.string "FewerManModel" (130 : Nat)) "java/lang/String").before a s = true := (n_r (n_r (n_l (n_l (n_r (n_l (n_r (n_r (n_r h)))))))))
theorem nw_co4 {a : Array Value} {s : State} (h : (Jvm.Cond.and given_1 narrow_1).before a s = true) : (Jvm.Cond.eq (Jvm.Term.field (Jvm.Term.string "FewerManModel" (130 : Nat)) "java/lang/String" "coder" "B") (Jvm.Term.int (0 : Int32))).before a s = true := (n_l (n_r (n_l (n_r (n_l (n_r (n_r (n_r h))))))))
theorem nw_ar4 {a : Array Value} {s : State} (h : (Jvm.Cond.and given_1 narrow_1).before a s = true) : (Jvm.Cond.arrayOf (Jvm.Term.field (Jvm.Term.string "FewerManModel" (130 : Nat)) "java/lang/String" "value" "[B") Jvm.ClassFile.FieldType.byte).before a s = true := (n_l (n_r (n_r (n_l (n_r (n_l (n_r (n_r (n_r h)))))))))
theorem nw_le4 {a : Array Value} {s : State} (h : (Jvm.Cond.and given_1 narrow_1).before a s = true) : (Jvm.Cond.eq (Jvm.Term.length (Jvm.Term.field (Jvm.Term.string "FewerManModel" (130 : Nat)) "java/lang/String" "value" "[B")) (Jvm.Term.int (5 : Int32))).before a s = true := (n_r (n_r (n_r (n_l (n_r (n_l (n_r (n_r (n_r h)))))))))
theorem nw_el4_0 {a : Array Value} {s : State} (h : (Jvm.Cond.and given_1 narrow_1).before a s = true) : (Jvm.Cond.eq (Jvm.Term.elem (Jvm.Term.field (Jvm.Term.string "FewerManModel" (130 : Nat)) "java/lang/String" "value" "[B") (Jvm.Term.int (0 : Int32))) (Jvm.Term.int (100 : Int32))).before a s = true := (n_l (n_l (n_r (n_r (n_l (n_r (n_r (n_r h))))))))
theorem nw_el4_1 {a : Array Value} {s : State} (h : (Jvm.Cond.and given_1 narrow_1).before a s = true) : (Jvm.Cond.eq (Jvm.Term.elem (Jvm.Term.field (Jvm.Term.string "FewerManModel" (130 : Nat)) "java/lang/String" "value" "[B") (Jvm.Term.int (1 : Int32))) (Jvm.Term.int (117 : Int32))).before a s = true := (n_l (n_r (n_l (n_r (n_r (n_l (n_r (n_r (n_r h)))))))))
theorem nw_el4_2 {a : Array Value} {s : State} (h : (Jvm.Cond.and given_1 narrow_1).before a s = true) : (Jvm.Cond.eq (Jvm.Term.elem (Jvm.Term.field (Jvm.Term.string "FewerManModel" (130 : Nat)) "java/lang/String" "value" "[B") (Jvm.Term.int (2 : Int32))) (Jvm.Term.int (99 : Int32))).before a s = true := (n_r (n_r (n_l (n_r (n_r (n_l (n_r (n_r (n_r h)))))))))
theorem nw_el4_3 {a : Array Value} {s : State} (h : (Jvm.Cond.and given_1 narrow_1).before a s = true) : (Jvm.Cond.eq (Jvm.Term.elem (Jvm.Term.field (Jvm.Term.string "FewerManModel" (130 : Nat)) "java/lang/String" "value" "[B") (Jvm.Term.int (3 : Int32))) (Jvm.Term.int (107 : Int32))).before a s = true := (n_l (n_r (n_r (n_r (n_l (n_r (n_r (n_r h))))))))
theorem nw_el4_4 {a : Array Value} {s : State} (h : (Jvm.Cond.and given_1 narrow_1).before a s = true) : (Jvm.Cond.eq (Jvm.Term.elem (Jvm.Term.field (Jvm.Term.string "FewerManModel" (130 : Nat)) "java/lang/String" "value" "[B") (Jvm.Term.int (4 : Int32))) (Jvm.Term.int (32 : Int32))).before a s = true := (n_l (n_r (n_r (n_r (n_r (n_l (n_r (n_r (n_r h)))))))))
theorem nw_ne0_4 {a : Array Value} {s : State} (h : (Jvm.Cond.and given_1 narrow_1).before a s = true) : (Jvm.Cond.not (Jvm.Cond.eq (Jvm.Term.string "FewerManModel" (116 : Nat)) (Jvm.Term.string "FewerManModel" (130 : Nat)))).before a s = true := (n_r (n_r (n_r (n_r (n_r (n_l (n_r (n_r (n_r h)))))))))
theorem nw_ne1_4 {a : Array Value} {s : State} (h : (Jvm.Cond.and given_1 narrow_1).before a s = true) : (Jvm.Cond.not (Jvm.Cond.eq (Jvm.Term.string "FewerManModel" (98 : Nat)) (Jvm.Term.string "FewerManModel" (130 : Nat)))).before a s = true := (n_l (n_l (n_l (n_l (n_r (n_r (n_r (n_r h))))))))
theorem nw_ne2_4 {a : Array Value} {s : State} (h : (Jvm.Cond.and given_1 narrow_1).before a s = true) : (Jvm.Cond.not (Jvm.Cond.eq (Jvm.Term.string "FewerManModel" (104 : Nat)) (Jvm.Term.string "FewerManModel" (130 : Nat)))).before a s = true := (n_r (n_l (n_l (n_l (n_r (n_r (n_r (n_r h))))))))
theorem nw_ne3_4 {a : Array Value} {s : State} (h : (Jvm.Cond.and given_1 narrow_1).before a s = true) : (Jvm.Cond.not (Jvm.Cond.eq (Jvm.Term.string "FewerManModel" (122 : Nat)) (Jvm.Term.string "FewerManModel" (130 : Nat)))).before a s = true := (n_l (n_r (n_l (n_l (n_r (n_r (n_r (n_r h))))))))
theorem nw_ex5 {a : Array Value} {s : State} (h : (Jvm.Cond.and given_1 narrow_1).before a s = true) : (Jvm.Cond.exactly (Jvm.Term.string "FewerManModel" (132 : Nat)) "java/lang/String").before a s = true := (n_l (n_r (n_r (n_l (n_l (n_r (n_r (n_r (n_r h)))))))))
theorem nw_co5 {a : Array Value} {s : State} (h : (Jvm.Cond.and given_1 narrow_1).before a s = true) : (Jvm.Cond.eq (Jvm.Term.field (Jvm.Term.string "FewerManModel" (132 : Nat)) "java/lang/String" "coder" "B") (Jvm.Term.int (0 : Int32))).before a s = true := (n_r (n_r (n_r (n_l (n_l (n_r (n_r (n_r (n_r h)))))))))
theorem nw_ar5 {a : Array Value} {s : State} (h : (Jvm.Cond.and given_1 narrow_1).before a s = true) : (Jvm.Cond.arrayOf (Jvm.Term.field (Jvm.Term.string "FewerManModel" (132 : Nat)) "java/lang/String" "value" "[B") Jvm.ClassFile.FieldType.byte).before a s = true := (n_l (n_l (n_r (n_l (n_r (n_r (n_r (n_r h))))))))
theorem nw_le5 {a : Array Value} {s : State} (h : (Jvm.Cond.and given_1 narrow_1).before a s = true) : (Jvm.Cond.eq (Jvm.Term.length (Jvm.Term.field (Jvm.Term.string "FewerManModel" (132 : Nat)) "java/lang/String" "value" "[B")) (Jvm.Term.int (5 : Int32))).before a s = true := (n_l (n_r (n_l (n_r (n_l (n_r (n_r (n_r (n_r h)))))))))
theorem nw_el5_0 {a : Array Value} {s : State} (h : (Jvm.Cond.and given_1 narrow_1).before a s = true) : (Jvm.Cond.eq (Jvm.Term.elem (Jvm.Term.field (Jvm.Term.string "FewerManModel" (132 : Nat)) "java/lang/String" "value" "[B") (Jvm.Term.int (0 : Int32))) (Jvm.Term.int (109 : Int32))).before a s = true := (n_r (n_r (n_l (n_r (n_l (n_r (n_r (n_r (n_r h)))))))))
theorem nw_el5_1 {a : Array Value} {s : State} (h : (Jvm.Cond.and given_1 narrow_1).before a s = true) : (Jvm.Cond.eq (Jvm.Term.elem (Jvm.Term.field (Jvm.Term.string "FewerManModel" (132 : Nat)) "java/lang/String" "value" "[B") (Jvm.Term.int (1 : Int32))) (Jvm.Term.int (111 : Int32))).before a s = true := (n_l (n_r (n_r (n_l (n_r (n_r (n_r (n_r h))))))))
theorem nw_el5_2 {a : Array Value} {s : State} (h : (Jvm.Cond.and given_1 narrow_1).before a s = true) : (Jvm.Cond.eq (Jvm.Term.elem (Jvm.Term.field (Jvm.Term.string "FewerManModel" (132 : Nat)) "java/lang/String" "value" "[B") (Jvm.Term.int (2 : Int32))) (Jvm.Term.int (114 : Int32))).before a s = true := (n_l (n_r (n_r (n_r (n_l (n_r (n_r (n_r (n_r h)))))))))
theorem nw_el5_3 {a : Array Value} {s : State} (h : (Jvm.Cond.and given_1 narrow_1).before a s = true) : (Jvm.Cond.eq (Jvm.Term.elem (Jvm.Term.field (Jvm.Term.string "FewerManModel" (132 : Nat)) "java/lang/String" "value" "[B") (Jvm.Term.int (3 : Int32))) (Jvm.Term.int (101 : Int32))).before a s = true := (n_r (n_r (n_r (n_r (n_l (n_r (n_r (n_r (n_r h)))))))))
theorem nw_el5_4 {a : Array Value} {s : State} (h : (Jvm.Cond.and given_1 narrow_1).before a s = true) : (Jvm.Cond.eq (Jvm.Term.elem (Jvm.Term.field (Jvm.Term.string "FewerManModel" (132 : Nat)) "java/lang/String" "value" "[B") (Jvm.Term.int (4 : Int32))) (Jvm.Term.int (32 : Int32))).before a s = true := (n_l (n_l (n_l (n_r (n_r (n_r (n_r (n_r h))))))))
theorem nw_ne0_5 {a : Array Value} {s : State} (h : (Jvm.Cond.and given_1 narrow_1).before a s = true) : (Jvm.Cond.not (Jvm.Cond.eq (Jvm.Term.string "FewerManModel" (116 : Nat)) (Jvm.Term.string "FewerManModel" (132 : Nat)))).before a s = true := (n_l (n_r (n_l (n_l (n_r (n_r (n_r (n_r (n_r h)))))))))
theorem nw_ne1_5 {a : Array Value} {s : State} (h : (Jvm.Cond.and given_1 narrow_1).before a s = true) : (Jvm.Cond.not (Jvm.Cond.eq (Jvm.Term.string "FewerManModel" (98 : Nat)) (Jvm.Term.string "FewerManModel" (132 : Nat)))).before a s = true := (n_r (n_r (n_l (n_l (n_r (n_r (n_r (n_r (n_r h)))))))))
theorem nw_ne2_5 {a : Array Value} {s : State} (h : (Jvm.Cond.and given_1 narrow_1).before a s = true) : (Jvm.Cond.not (Jvm.Cond.eq (Jvm.Term.string "FewerManModel" (104 : Nat)) (Jvm.Term.string "FewerManModel" (132 : Nat)))).before a s = true := (n_l (n_r (n_l (n_r (n_r (n_r (n_r (n_r h))))))))
theorem nw_ne3_5 {a : Array Value} {s : State} (h : (Jvm.Cond.and given_1 narrow_1).before a s = true) : (Jvm.Cond.not (Jvm.Cond.eq (Jvm.Term.string "FewerManModel" (122 : Nat)) (Jvm.Term.string "FewerManModel" (132 : Nat)))).before a s = true := (n_l (n_r (n_r (n_l (n_r (n_r (n_r (n_r (n_r h)))))))))
theorem nw_ne4_5 {a : Array Value} {s : State} (h : (Jvm.Cond.and given_1 narrow_1).before a s = true) : (Jvm.Cond.not (Jvm.Cond.eq (Jvm.Term.string "FewerManModel" (130 : Nat)) (Jvm.Term.string "FewerManModel" (132 : Nat)))).before a s = true := (n_r (n_r (n_r (n_l (n_r (n_r (n_r (n_r (n_r h)))))))))
theorem nw_cs {a : Array Value} {s : State} (h : (Jvm.Cond.and given_1 narrow_1).before a s = true) : (Jvm.Cond.eq (Jvm.Term.static "java/lang/String" "COMPACT_STRINGS" "Z") (Jvm.Term.int (1 : Int32))).before a s = true := (n_l (n_r (n_r (n_l (n_l (n_l (n_l (n_r h))))))))
theorem nw_sf {a : Array Value} {s : State} (h : (Jvm.Cond.and given_1 narrow_1).before a s = true) : (Jvm.Cond.isRef (Jvm.Term.static "jdk/internal/util/Preconditions" "SIOOBE_FORMATTER" "Ljava/util/function/BiFunction;")).before a s = true := (n_l (n_r (n_r (n_r (n_l (n_l (n_l (n_l (n_r h)))))))))
theorem nw_us {a : Array Value} {s : State} (h : (Jvm.Cond.and given_1 narrow_1).before a s = true) : (Jvm.Cond.isRef (Jvm.Term.static "java/lang/Throwable" "UNASSIGNED_STACK" "[Ljava/lang/StackTraceElement;")).before a s = true := (n_l (n_r (n_l (n_r (n_l (n_l (n_l (n_l (n_r h)))))))))
theorem nw_ss {a : Array Value} {s : State} (h : (Jvm.Cond.and given_1 narrow_1).before a s = true) : (Jvm.Cond.isRef (Jvm.Term.static "java/lang/Throwable" "SUPPRESSED_SENTINEL" "Ljava/util/List;")).before a s = true := (n_r (n_r (n_l (n_r (n_l (n_l (n_l (n_l (n_r h)))))))))
/-- the six texts: their places in the twin's constants, their lengths, their bytes -/
def zkI : Nat → Nat := fun i => match i with
  | 0 => 116
  | 1 => 98
  | 2 => 104
  | 3 => 122
  | 4 => 130
  | _ => 132
def zkL : List Nat := [4, 5, 3, 4, 5, 5]
def zkB : List (List Int32) := [[105, 102, 116, 32], [112, 107, 109, 111, 103], [60, 61, 62], [101, 115, 115, 32], [100, 117, 99, 107, 32], [109, 111, 114, 101, 32]]
abbrev zOld (E : ZE) : Nat → Prop := fun q => zBase E ≤ q
def zSt (E : ZE) (adK adV : Nat → Nat) : Prop := vk_S 6 zkL zkB adK adV (zOld E) (zs0 E) (zs0 E).heap ∧ ∀ i : Nat, i < 6 → (Term.string "FewerManModel" (zkI i)).eval (zA0 E) (zs0 E) none [] (zs0 E) = some (.ref (adK i))
theorem six {P : Nat → Prop} (h0 : P 0) (h1 : P 1) (h2 : P 2) (h3 : P 3) (h4 : P 4) (h5 : P 5) : ∀ i : Nat, i < 6 → P i := fun i hi => by
  match i, hi with
  | 0, _ => exact h0
  | 1, _ => exact h1
  | 2, _ => exact h2
  | 3, _ => exact h3
  | 4, _ => exact h4
  | 5, _ => exact h5
  | j + 6, h => exact absurd h (by omega)
theorem zSt.ex {E : ZE} (hE : zOK E) : ∃ adK adV : Nat → Nat, zSt E adK adV := by
  have h := hE.2.2.2.2
  refine vk_Sof (tm := fun i => Term.string "FewerManModel" (zkI i)) (args := zA0 E) (by decide) ?_ ?_ ?_ ?_ ?_ ?_ (fun a h1 h2 => absurd h1 (Nat.not_lt.mpr h2))
  · exact six (nw_ex0 h) (nw_ex1 h) (nw_ex2 h) (nw_ex3 h) (nw_ex4 h) (nw_ex5 h)
  · exact six (nw_co0 h) (nw_co1 h) (nw_co2 h) (nw_co3 h) (nw_co4 h) (nw_co5 h)
  · exact six (nw_ar0 h) (nw_ar1 h) (nw_ar2 h) (nw_ar3 h) (nw_ar4 h) (nw_ar5 h)
  · exact six (nw_le0 h) (nw_le1 h) (nw_le2 h) (nw_le3 h) (nw_le4 h) (nw_le5 h)
  · refine six (?_) (?_) (?_) (?_) (?_) (?_)
    · exact fun j hj => by
        match j, hj with
        | 0, _ => exact nw_el0_0 h
        | 1, _ => exact nw_el0_1 h
        | 2, _ => exact nw_el0_2 h
        | 3, _ => exact nw_el0_3 h
        | j + 4, hj => exact absurd hj (show ¬ j + 4 < 4 by omega)
    · exact fun j hj => by
        match j, hj with
        | 0, _ => exact nw_el1_0 h
        | 1, _ => exact nw_el1_1 h
        | 2, _ => exact nw_el1_2 h
        | 3, _ => exact nw_el1_3 h
        | 4, _ => exact nw_el1_4 h
        | j + 5, hj => exact absurd hj (show ¬ j + 5 < 5 by omega)
    · exact fun j hj => by
        match j, hj with
        | 0, _ => exact nw_el2_0 h
        | 1, _ => exact nw_el2_1 h
        | 2, _ => exact nw_el2_2 h
        | j + 3, hj => exact absurd hj (show ¬ j + 3 < 3 by omega)
    · exact fun j hj => by
        match j, hj with
        | 0, _ => exact nw_el3_0 h
        | 1, _ => exact nw_el3_1 h
        | 2, _ => exact nw_el3_2 h
        | 3, _ => exact nw_el3_3 h
        | j + 4, hj => exact absurd hj (show ¬ j + 4 < 4 by omega)
    · exact fun j hj => by
        match j, hj with
        | 0, _ => exact nw_el4_0 h
        | 1, _ => exact nw_el4_1 h
        | 2, _ => exact nw_el4_2 h
        | 3, _ => exact nw_el4_3 h
        | 4, _ => exact nw_el4_4 h
        | j + 5, hj => exact absurd hj (show ¬ j + 5 < 5 by omega)
    · exact fun j hj => by
        match j, hj with
        | 0, _ => exact nw_el5_0 h
        | 1, _ => exact nw_el5_1 h
        | 2, _ => exact nw_el5_2 h
        | 3, _ => exact nw_el5_3 h
        | 4, _ => exact nw_el5_4 h
        | j + 5, hj => exact absurd hj (show ¬ j + 5 < 5 by omega)
  · intro i j hi hj
    revert i j
    suffices q : ∀ i : Nat, i < 6 → ∀ j : Nat, j < 6 → i ≠ j → (Cond.not (Cond.eq (Term.string "FewerManModel" (zkI i)) (Term.string "FewerManModel" (zkI j)))).before (zA0 E) (zs0 E) = true ∨ (Cond.not (Cond.eq (Term.string "FewerManModel" (zkI j)) (Term.string "FewerManModel" (zkI i)))).before (zA0 E) (zs0 E) = true from fun i j hi hj => q i hi j hj
    refine six (P := fun i => ∀ j : Nat, j < 6 → i ≠ j → (Cond.not (Cond.eq (Term.string "FewerManModel" (zkI i)) (Term.string "FewerManModel" (zkI j)))).before (zA0 E) (zs0 E) = true ∨ (Cond.not (Cond.eq (Term.string "FewerManModel" (zkI j)) (Term.string "FewerManModel" (zkI i)))).before (zA0 E) (zs0 E) = true) (?_) (?_) (?_) (?_) (?_) (?_)
    · exact fun j hj => six (P := fun j => 0 ≠ j → (Cond.not (Cond.eq (Term.string "FewerManModel" (zkI 0)) (Term.string "FewerManModel" (zkI j)))).before (zA0 E) (zs0 E) = true ∨ (Cond.not (Cond.eq (Term.string "FewerManModel" (zkI j)) (Term.string "FewerManModel" (zkI 0)))).before (zA0 E) (zs0 E) = true) (fun q => absurd rfl q) (fun _ => Or.inl (nw_ne0_1 h)) (fun _ => Or.inl (nw_ne0_2 h)) (fun _ => Or.inl (nw_ne0_3 h)) (fun _ => Or.inl (nw_ne0_4 h)) (fun _ => Or.inl (nw_ne0_5 h)) j hj
    · exact fun j hj => six (P := fun j => 1 ≠ j → (Cond.not (Cond.eq (Term.string "FewerManModel" (zkI 1)) (Term.string "FewerManModel" (zkI j)))).before (zA0 E) (zs0 E) = true ∨ (Cond.not (Cond.eq (Term.string "FewerManModel" (zkI j)) (Term.string "FewerManModel" (zkI 1)))).before (zA0 E) (zs0 E) = true) (fun _ => Or.inr (nw_ne0_1 h)) (fun q => absurd rfl q) (fun _ => Or.inl (nw_ne1_2 h)) (fun _ => Or.inl (nw_ne1_3 h)) (fun _ => Or.inl (nw_ne1_4 h)) (fun _ => Or.inl (nw_ne1_5 h)) j hj
    · exact fun j hj => six (P := fun j => 2 ≠ j → (Cond.not (Cond.eq (Term.string "FewerManModel" (zkI 2)) (Term.string "FewerManModel" (zkI j)))).before (zA0 E) (zs0 E) = true ∨ (Cond.not (Cond.eq (Term.string "FewerManModel" (zkI j)) (Term.string "FewerManModel" (zkI 2)))).before (zA0 E) (zs0 E) = true) (fun _ => Or.inr (nw_ne0_2 h)) (fun _ => Or.inr (nw_ne1_2 h)) (fun q => absurd rfl q) (fun _ => Or.inl (nw_ne2_3 h)) (fun _ => Or.inl (nw_ne2_4 h)) (fun _ => Or.inl (nw_ne2_5 h)) j hj
    · exact fun j hj => six (P := fun j => 3 ≠ j → (Cond.not (Cond.eq (Term.string "FewerManModel" (zkI 3)) (Term.string "FewerManModel" (zkI j)))).before (zA0 E) (zs0 E) = true ∨ (Cond.not (Cond.eq (Term.string "FewerManModel" (zkI j)) (Term.string "FewerManModel" (zkI 3)))).before (zA0 E) (zs0 E) = true) (fun _ => Or.inr (nw_ne0_3 h)) (fun _ => Or.inr (nw_ne1_3 h)) (fun _ => Or.inr (nw_ne2_3 h)) (fun q => absurd rfl q) (fun _ => Or.inl (nw_ne3_4 h)) (fun _ => Or.inl (nw_ne3_5 h)) j hj
    · exact fun j hj => six (P := fun j => 4 ≠ j → (Cond.not (Cond.eq (Term.string "FewerManModel" (zkI 4)) (Term.string "FewerManModel" (zkI j)))).before (zA0 E) (zs0 E) = true ∨ (Cond.not (Cond.eq (Term.string "FewerManModel" (zkI j)) (Term.string "FewerManModel" (zkI 4)))).before (zA0 E) (zs0 E) = true) (fun _ => Or.inr (nw_ne0_4 h)) (fun _ => Or.inr (nw_ne1_4 h)) (fun _ => Or.inr (nw_ne2_4 h)) (fun _ => Or.inr (nw_ne3_4 h)) (fun q => absurd rfl q) (fun _ => Or.inl (nw_ne4_5 h)) j hj
    · exact fun j hj => six (P := fun j => 5 ≠ j → (Cond.not (Cond.eq (Term.string "FewerManModel" (zkI 5)) (Term.string "FewerManModel" (zkI j)))).before (zA0 E) (zs0 E) = true ∨ (Cond.not (Cond.eq (Term.string "FewerManModel" (zkI j)) (Term.string "FewerManModel" (zkI 5)))).before (zA0 E) (zs0 E) = true) (fun _ => Or.inr (nw_ne0_5 h)) (fun _ => Or.inr (nw_ne1_5 h)) (fun _ => Or.inr (nw_ne2_5 h)) (fun _ => Or.inr (nw_ne3_5 h)) (fun _ => Or.inr (nw_ne4_5 h)) (fun q => absurd rfl q) j hj
/-- a static that stands as it stood before the law -/
abbrev zSv (E : ZE) (C n d : String) (v : Value) : Prop := va_Z C n d v (zOld E) (zs0 E) (zs0 E).heap
theorem zold {E : ZE} {n : Nat} {T : ZT} {I : ZI} {L : ZL} {R : ZR} {H : Heap} (hR : zRep E n T I L R H) : ∀ a : Nat, a < (zs0 E).heap.size → ¬ zOld E a → H[a]? = (zs0 E).heap[a]? := fun a _ h2 => hR.2.2.1 a (Nat.lt_of_not_le h2)
theorem zoldA {s : State} : ∀ a : Nat, a < s.heap.size → ¬ s.heap.size ≤ a := fun a h1 h2 => absurd h1 (Nat.not_lt.mpr h2)
theorem zSv.of {E : ZE} (hE : zOK E) {C n d : String} {v : Value} (hl : Cond.laysStatic C n d ∈ lw_tbl) (hi : Cond.initialized C ∈ lw_tbl) (hv : (Term.static C n d).eval (zA0 E) (zs0 E) none [] (zs0 E) = some v) : zSv E C n d v := va_Zof (hE.1 _ hl) (hE.1 _ hi) hv zoldA
theorem zSv.ofR {E : ZE} (hE : zOK E) {C n d : String} (hl : Cond.laysStatic C n d ∈ lw_tbl) (hi : Cond.initialized C ∈ lw_tbl) (h : (Cond.isRef (.static C n d)).before (zA0 E) (zs0 E) = true) : ∃ r : Option Nat, zSv E C n d (va_rf r) := by
  rcases va_Zqof (A := zOld E) (hE.1 _ hl) (hE.1 _ hi) h zoldA with h | ⟨t, h⟩
  · exact ⟨none, h⟩
  · exact ⟨some t, h⟩
theorem zSv_cs {E : ZE} (hE : zOK E) : zSv E "java/lang/String" "COMPACT_STRINGS" "Z" (.int 1) := zSv.of hE q1360 (lw_all_tbl q99) (va_eqt (nw_cs hE.2.2.2.2))
theorem zSv_sf {E : ZE} (hE : zOK E) : ∃ r : Option Nat, zSv E "jdk/internal/util/Preconditions" "SIOOBE_FORMATTER" "Ljava/util/function/BiFunction;" (va_rf r) := zSv.ofR hE q1376 (lw_all_tbl q101) (nw_sf hE.2.2.2.2)
section ZStr
variable {E : ZE} {G : ZG} {cc : ByteArray} {own : String} {nL d K S kc ks n : Nat} {T : ZT} {I : ZI} {L : ZL} {R : ZR} {pc : Nat} {lv : List (Option Value)} {st : List Value}
theorem z_gets {C nm ds ref : String} {v : Value} {index : Nat} (g : zGd E G cc own nL d K S) (hZ : zSv E C nm ds v) (hl : Cond.fieldLink own index ref nm ds ∈ lw_all) (hs : ref = C ∨ Cond.sameField ref C nm ds ∈ lw_all) (hd : decode cc pc = .ok (.getstatic index, 3)) (kk : Z E G kc ks n T I L R (pc + 3) lv (v :: st)) : Z E G kc ks n T I L R pc lv st := fun H locs ls hR hL hlv => by
  obtain ⟨cf, kf, fi, f, a, cell, h1, h2, h3, h4, h5, h6, h7, h8⟩ := (hZ.moved g.wm.alike).kept (zold hR)
  exact W.gets g.x g.b g.ow (g.w hl) (g.same hs _ h1) h2 h3 h4 h5 (fun e => by rw [e] at h6; cases h6) h7 rfl hd (kk H locs ls hR hL hlv)
theorem zSt.at {adK adV : Nat → Nat} {H : Heap} (hS : zSt E adK adV) (g : zGd E G cc own nL d K S) (hR : zRep E n T I L R H) : vk_S 6 zkL zkB adK adV (zOld E) (gs G) H := (hS.1.moved g.wm.alike).kept (zold hR)
theorem z_ldcT {adK adV : Nat → Nat} {i : Nat} {tx : String} {index : Nat} (g : zGd E G cc own nL d K S) (hS : zSt E adK adV) (hi : i < 6) (hw : Cond.stringRef "FewerManModel" index tx ∈ lw_tbl) (hx : zkI i = index) (ho : own = "FewerManModel") (hd : decode cc pc = .ok (.ldc index, 2)) (kk : Z E G kc ks n T I L R (pc + 2) lv (.ref (adK i) :: st)) : Z E G kc ks n T I L R pc lv st := fun H locs ls hR hL hlv => by
  subst hx
  subst ho
  exact va_ldcS g.x g.b g.ow (vk_R.warm g.wm (vk_R.of (g.ok.1 _ hw) (by rw [hS.2 i hi]))) hd (kk H locs ls hR hL hlv)
theorem z_txtC {adK adV : Nat → Nat} {i index : Nat} (g : zGd E G cc own nL d K S) (hS : zSt E adK adV) (hi : i < 6) (hl : Cond.fieldLink own index "java/lang/String" "coder" "B" ∈ lw_all) (hd : decode cc pc = .ok (.getfield index, 3)) (kk : Z E G kc ks n T I L R (pc + 3) lv (.int 0 :: st)) : Z E G kc ks n T I L R pc lv (.ref (adK i) :: st) := fun H locs ls hR hL hlv => by
  obtain ⟨cf, k, fi, f, cell, h1, h2, h3, h4, h5, h6⟩ := ((hS.at g hR).1 i hi).2.1
  exact W.getf g.x g.b g.ow (g.w hl) h1 h2 h3 h4 (v := .int 0) h5 rfl rfl hd (kk H locs ls hR hL hlv)
theorem z_txtV {adK adV : Nat → Nat} {i index : Nat} (g : zGd E G cc own nL d K S) (hS : zSt E adK adV) (hi : i < 6) (hl : Cond.fieldLink own index "java/lang/String" "value" "[B" ∈ lw_all) (hd : decode cc pc = .ok (.getfield index, 3)) (kk : Z E G kc ks n T I L R (pc + 3) lv (.ref (adV i) :: st)) : Z E G kc ks n T I L R pc lv (.ref (adK i) :: st) := fun H locs ls hR hL hlv => by
  obtain ⟨cf, k, fi, f, cell, h1, h2, h3, h4, h5, h6⟩ := ((hS.at g hR).1 i hi).2.2.1
  exact W.getf g.x g.b g.ow (g.w hl) h1 h2 h3 h4 (v := .ref (adV i)) h5 rfl rfl hd (kk H locs ls hR hL hlv)
theorem z_txtN {adK adV : Nat → Nat} {i : Nat} (g : zGd E G cc own nL d K S) (hS : zSt E adK adV) (hi : i < 6) (hd : decode cc pc = .ok (.arraylength, 1)) (kk : Z E G kc ks n T I L R (pc + 1) lv (.int (nI (zkL.getD i 0)) :: st)) : Z E G kc ks n T I L R pc lv (.ref (adV i) :: st) := fun H locs ls hR hL hlv => by
  obtain ⟨cell, h1, h2, h3, h4, h5, h6, h7⟩ := ((hS.at g hR).1 i hi).2.2.2
  exact W.alen (n := nI (zkL.getD i 0)) g.x g.b h1 h2 h5 rfl rfl hd (kk H locs ls hR hL hlv)
theorem z_txtB {adK adV : Nat → Nat} {i j : Nat} (g : zGd E G cc own nL d K S) (hS : zSt E adK adV) (hi : i < 6) (hj : j < zkL.getD i 0) (hj31 : j < 2 ^ 31) (hd : decode cc pc = .ok (.baload, 1)) (kk : Z E G kc ks n T I L R (pc + 1) lv (.int ((zkB.getD i []).getD j 0) :: st)) : Z E G kc ks n T I L R pc lv (.int (nI j) :: .ref (adV i) :: st) := fun H locs ls hR hL hlv => by
  obtain ⟨cell, h1, h2, h3, h4, h5, h6, h7⟩ := ((hS.at g hR).1 i hi).2.2.2
  have hc : (nI j).toNatClampNeg = j := nI_clamp hj31
  refine W.bald (v := .int ((zkB.getD i []).getD j 0)) g.x g.b h1 h2 h3 (fun q => ?_) (by rw [hc]; exact h6 j hj) rfl rfl hd (kk H locs ls hR hL hlv)
  rcases q with q | q
  · exact nI_pos hj31 q
  · rw [hc] at q
    omega
theorem z_bret {v : Int32} {P : ZP} (g : zGd E G cc own nL d K S) (r : zRt E G (some .byte) K S P) (h1 : kc ≤ K) (h2 : ks ≤ S) (hn : narrow .byte (.int v) = .int v) (hd : decode cc pc = .ok (.ireturn, 1)) (h : P (some (.int v)) n T I L R) : Z E G kc ks n T I L R pc lv [.int v] := fun H locs ls hR hL hl => by
  show W _ _ _ _ _ _ _ _ _ _ H locs kc ks (gQ G) _
  rw [r.2.2]
  exact W.widen h1 h2 (W.zret g.x g.b r.1 hn (fun t ht hW => ⟨_, _, _, _, _, _, rfl, h, by rw [ht]; exact hR⟩) hL hd (hlocks := r.2.1))
end ZStr
section ZStrC
variable {E : ZE} {G : ZG} {cc : ByteArray} {own : String} {nL d K S kc ks n : Nat} {T : ZT} {I : ZI} {L : ZL} {R : ZR} {pc : Nat} {lv : List (Option Value)} {st rest : List Value}
variable {y : MethodName} {bb : ByteArray} {mL d' mc ms na index : Nat} {rt : Option FieldType} {P : ZP} {a1 a2 : Value}
theorem z_callT0 {adK adV : Nat → Nat} {i : Nat} (g : zGd E G cc own nL d K S) (hck : zCk y bb mL rt 0) (hl : Cond.methodLink own index y ∈ lw_all) (hin : Cond.instanceMethod y ∈ lw_all) (hsel : Cond.selects "java/lang/String" y y ∈ lw_all) (hS : zSt E adK adV) (hi : i < 6) (hM : zM E y bb mL rt d' mc ms [.ref (adK i)] n T I L R P) (hml : lv.length = nL) (hw : zshort rest) (hd' : d' + 1 ≤ d) (h1 : kc + mc ≤ K) (h2 : ks + ms ≤ S) (hd : decode cc pc = .ok (.invokevirtual index, 3)) (kk : ∀ (v : Option Value) (n' : Nat) (T' : ZT) (I' : ZI) (L' : ZL) (R' : ZR), P v n' T' I' L' R' → Z E G (kc + mc) (ks + ms) n' T' I' L' R' (pc + 3) lv (v.toList ++ rest)) : Z E G kc ks n T I L R pc lv (.ref (adK i) :: rest) :=
  z_after (As := [.ref (adK i)]) (fun H locs ls hR hlv => va_runV g.cf (hM g.ok) ⟨g.cb hck hl hd', g.w hin, g.w hsel⟩ ⟨zblind, (by obtain ⟨cell, q1, q2, q3, -⟩ := ((hS.at g hR).1 i hi).1; exact ⟨cell, q1, q2, q3⟩), g.pre hR⟩ rfl rfl (hlv.1.trans hml) rfl (lv_room (pc := pc) (rest := _) hw) hd ⟨by rw [g.ce]; exact h1, by rw [g.sl]; exact h2⟩) kk
theorem z_callT1 {adK adV : Nat → Nat} {i : Nat} (g : zGd E G cc own nL d K S) (hck : zCk y bb mL rt 1) (hl : Cond.methodLink own index y ∈ lw_all) (hin : Cond.instanceMethod y ∈ lw_all) (hsel : Cond.selects "java/lang/String" y y ∈ lw_all) (hS : zSt E adK adV) (hi : i < 6) (hM : zM E y bb mL rt d' mc ms [.ref (adK i), a1] n T I L R P) (hml : lv.length = nL) (hw : zshort rest) (hd' : d' + 1 ≤ d) (h1 : kc + mc ≤ K) (h2 : ks + ms ≤ S) (hd : decode cc pc = .ok (.invokevirtual index, 3)) (kk : ∀ (v : Option Value) (n' : Nat) (T' : ZT) (I' : ZI) (L' : ZL) (R' : ZR), P v n' T' I' L' R' → Z E G (kc + mc) (ks + ms) n' T' I' L' R' (pc + 3) lv (v.toList ++ rest)) : Z E G kc ks n T I L R pc lv (a1 :: .ref (adK i) :: rest) :=
  z_after (As := [.ref (adK i), a1]) (fun H locs ls hR hlv => va_runV g.cf (hM g.ok) ⟨g.cb hck hl hd', g.w hin, g.w hsel⟩ ⟨zblind, (by obtain ⟨cell, q1, q2, q3, -⟩ := ((hS.at g hR).1 i hi).1; exact ⟨cell, q1, q2, q3⟩), g.pre hR⟩ rfl rfl (hlv.1.trans hml) rfl (lv_room (pc := pc) (rest := _) hw) hd ⟨by rw [g.ce]; exact h1, by rw [g.sl]; exact h2⟩) kk
end ZStrC
