theorem q382 : (Jvm.Cond.interfaceMethod "KioskReel$DeviceTest" "KioskReel$DeviceTest" "holds" "(LKioskReel$Device;)Z") ∈ lw_tbl := lw_at lw_m2 100 rfl
set_option maxRecDepth 100000
theorem q383 : (Jvm.Cond.declares ({ cls := "KioskReel$DeviceTest", name := "holds", desc := "(LKioskReel$Device;)Z" } : Jvm.MethodName)) ∈ lw_tbl := lw_at lw_m2 101 rfl

theorem q1344 : (Jvm.Cond.interfaceMethod "KioskReel$VisitorTest" "KioskReel$VisitorTest" "holds" "(LKioskReel$Visitor;)Z") ∈ lw_tbl := lw_at lw_m6 102 rfl
set_option maxRecDepth 100000
theorem q1345 : (Jvm.Cond.declares ({ cls := "KioskReel$VisitorTest", name := "holds", desc := "(LKioskReel$Visitor;)Z" } : Jvm.MethodName)) ∈ lw_tbl := lw_at lw_m6 103 rfl

theorem q789 : (Jvm.Cond.sameMethod "[B" "java/lang/Object" "clone" "()Ljava/lang/Object;") ∈ lw_all := lw_g (lw_at lw_m4 27 rfl) rfl
set_option maxRecDepth 100000
theorem q792 : (Jvm.Cond.selects "[B" ({ cls := "[B", name := "clone", desc := "()Ljava/lang/Object;" } : Jvm.MethodName) ({ cls := "java/lang/Object", name := "clone", desc := "()Ljava/lang/Object;" } : Jvm.MethodName)) ∈ lw_all := lw_g (lw_at lw_m4 30 rfl) rfl
theorem q793 : (Jvm.Cond.castable "[B" "java/lang/Cloneable") ∈ lw_tbl := lw_at lw_m4 31 rfl
theorem q1920 : (Jvm.Cond.castable "[B" "java/lang/Object") ∈ lw_tbl := lw_at lw_m8 198 rfl

theorem q1930 : (Jvm.Cond.castable "[C" "java/lang/Object") ∈ lw_tbl := lw_at lw_m8 208 rfl
set_option maxRecDepth 100000

theorem q1934 : (Jvm.Cond.castable "[D" "java/lang/Object") ∈ lw_tbl := lw_at lw_m8 212 rfl
set_option maxRecDepth 100000

theorem q1931 : (Jvm.Cond.castable "[I" "java/lang/Object") ∈ lw_tbl := lw_at lw_m8 209 rfl
set_option maxRecDepth 100000

theorem q1933 : (Jvm.Cond.castable "[J" "java/lang/Object") ∈ lw_tbl := lw_at lw_m8 211 rfl
set_option maxRecDepth 100000

theorem q1924 : (Jvm.Cond.castable "[LKioskReel$Free;" "java/lang/Object") ∈ lw_tbl := lw_at lw_m8 202 rfl
set_option maxRecDepth 100000

theorem q1925 : (Jvm.Cond.castable "[LKioskReel$GoTo;" "java/lang/Object") ∈ lw_tbl := lw_at lw_m8 203 rfl
set_option maxRecDepth 100000

theorem q1926 : (Jvm.Cond.castable "[LKioskReel$IfAlone;" "java/lang/Object") ∈ lw_tbl := lw_at lw_m8 204 rfl
set_option maxRecDepth 100000

theorem q1919 : (Jvm.Cond.castable "[LKioskReel$Line;" "java/lang/Object") ∈ lw_tbl := lw_at lw_m8 197 rfl
set_option maxRecDepth 100000

theorem q1927 : (Jvm.Cond.castable "[LKioskReel$Loop;" "java/lang/Object") ∈ lw_tbl := lw_at lw_m8 205 rfl
set_option maxRecDepth 100000

theorem q1922 : (Jvm.Cond.castable "[LKioskReel$Pause;" "java/lang/Object") ∈ lw_tbl := lw_at lw_m8 200 rfl
set_option maxRecDepth 100000

theorem q1929 : (Jvm.Cond.castable "[LKioskReel$PlayList;" "java/lang/Object") ∈ lw_tbl := lw_at lw_m8 207 rfl
set_option maxRecDepth 100000

theorem q1928 : (Jvm.Cond.castable "[LKioskReel$SetCount;" "java/lang/Object") ∈ lw_tbl := lw_at lw_m8 206 rfl
set_option maxRecDepth 100000

theorem q1921 : (Jvm.Cond.castable "[LKioskReel$Show;" "java/lang/Object") ∈ lw_tbl := lw_at lw_m8 199 rfl
set_option maxRecDepth 100000

theorem q1923 : (Jvm.Cond.castable "[LKioskReel$Take;" "java/lang/Object") ∈ lw_tbl := lw_at lw_m8 201 rfl
set_option maxRecDepth 100000

theorem q1916 : (Jvm.Cond.sameMethod "[Ljava/lang/Object;" "java/lang/Object" "getClass" "()Ljava/lang/Class;") ∈ lw_all := lw_g (lw_at lw_m8 194 rfl) rfl
set_option maxRecDepth 100000
theorem q1917 : (Jvm.Cond.selects "[Ljava/lang/Object;" ({ cls := "java/lang/Object", name := "getClass", desc := "()Ljava/lang/Class;" } : Jvm.MethodName) ({ cls := "java/lang/Object", name := "getClass", desc := "()Ljava/lang/Class;" } : Jvm.MethodName)) ∈ lw_all := lw_g (lw_at lw_m8 195 rfl) rfl
theorem q1918 : (Jvm.Cond.castable "[Ljava/lang/Object;" "java/lang/Object") ∈ lw_tbl := lw_at lw_m8 196 rfl

theorem q1932 : (Jvm.Cond.castable "[Z" "java/lang/Object") ∈ lw_tbl := lw_at lw_m8 210 rfl
set_option maxRecDepth 100000

theorem q78 : (Jvm.Cond.initialized "java/lang/Number") ∈ lw_all := lw_g (lw_at lw_m1 36 rfl) rfl
set_option maxRecDepth 100000

theorem q51 : (Jvm.Cond.initialized "java/lang/System") ∈ lw_all := lw_g (lw_at lw_m1 9 rfl) rfl
set_option maxRecDepth 100000
theorem q221 : (Jvm.Cond.static ({ cls := "java/lang/System", name := "arraycopy", desc := "(Ljava/lang/Object;ILjava/lang/Object;II)V" } : Jvm.MethodName)) ∈ lw_all := lw_g (lw_at lw_m1 179 rfl) rfl
theorem q222 : (Jvm.Cond.native ({ cls := "java/lang/System", name := "arraycopy", desc := "(Ljava/lang/Object;ILjava/lang/Object;II)V" } : Jvm.MethodName)) ∈ lw_all := lw_g (lw_at lw_m1 180 rfl) rfl

theorem q1410 : (Jvm.Cond.interfaceMethod "java/util/Collection" "java/util/Collection" "toArray" "()[Ljava/lang/Object;") ∈ lw_tbl := lw_at lw_m6 168 rfl
set_option maxRecDepth 100000
theorem q1411 : (Jvm.Cond.declares ({ cls := "java/util/Collection", name := "toArray", desc := "()[Ljava/lang/Object;" } : Jvm.MethodName)) ∈ lw_tbl := lw_at lw_m6 169 rfl
theorem q1420 : (Jvm.Cond.interfaceMethod "java/util/Collection" "java/lang/Object" "getClass" "()Ljava/lang/Class;") ∈ lw_tbl := lw_at lw_m6 178 rfl

theorem q291 : (Jvm.Cond.interfaceMethod "java/util/Iterator" "java/util/Iterator" "hasNext" "()Z") ∈ lw_tbl := lw_at lw_m2 9 rfl
set_option maxRecDepth 100000
theorem q292 : (Jvm.Cond.declares ({ cls := "java/util/Iterator", name := "hasNext", desc := "()Z" } : Jvm.MethodName)) ∈ lw_tbl := lw_at lw_m2 10 rfl
theorem q301 : (Jvm.Cond.interfaceMethod "java/util/Iterator" "java/util/Iterator" "next" "()Ljava/lang/Object;") ∈ lw_tbl := lw_at lw_m2 19 rfl
theorem q302 : (Jvm.Cond.declares ({ cls := "java/util/Iterator", name := "next", desc := "()Ljava/lang/Object;" } : Jvm.MethodName)) ∈ lw_tbl := lw_at lw_m2 20 rfl

theorem q146 : (Jvm.Cond.interfaceMethod "java/util/List" "java/util/List" "add" "(Ljava/lang/Object;)Z") ∈ lw_tbl := lw_at lw_m1 104 rfl
set_option maxRecDepth 100000
theorem q147 : (Jvm.Cond.declares ({ cls := "java/util/List", name := "add", desc := "(Ljava/lang/Object;)Z" } : Jvm.MethodName)) ∈ lw_tbl := lw_at lw_m1 105 rfl
theorem q263 : (Jvm.Cond.interfaceMethod "java/util/List" "java/util/List" "iterator" "()Ljava/util/Iterator;") ∈ lw_tbl := lw_at lw_m1 221 rfl
theorem q264 : (Jvm.Cond.declares ({ cls := "java/util/List", name := "iterator", desc := "()Ljava/util/Iterator;" } : Jvm.MethodName)) ∈ lw_tbl := lw_at lw_m1 222 rfl
theorem q413 : (Jvm.Cond.interfaceMethod "java/util/List" "java/util/List" "contains" "(Ljava/lang/Object;)Z") ∈ lw_tbl := lw_at lw_m2 131 rfl
theorem q414 : (Jvm.Cond.declares ({ cls := "java/util/List", name := "contains", desc := "(Ljava/lang/Object;)Z" } : Jvm.MethodName)) ∈ lw_tbl := lw_at lw_m2 132 rfl
theorem q479 : (Jvm.Cond.interfaceMethod "java/util/List" "java/util/List" "size" "()I") ∈ lw_tbl := lw_at lw_m2 197 rfl
theorem q480 : (Jvm.Cond.declares ({ cls := "java/util/List", name := "size", desc := "()I" } : Jvm.MethodName)) ∈ lw_tbl := lw_at lw_m2 198 rfl
theorem q588 : (Jvm.Cond.interfaceMethod "java/util/List" "java/util/List" "get" "(I)Ljava/lang/Object;") ∈ lw_tbl := lw_at lw_m3 66 rfl
theorem q589 : (Jvm.Cond.declares ({ cls := "java/util/List", name := "get", desc := "(I)Ljava/lang/Object;" } : Jvm.MethodName)) ∈ lw_tbl := lw_at lw_m3 67 rfl
theorem q717 : (Jvm.Cond.interfaceMethod "java/util/List" "java/util/List" "add" "(ILjava/lang/Object;)V") ∈ lw_tbl := lw_at lw_m3 195 rfl
theorem q718 : (Jvm.Cond.declares ({ cls := "java/util/List", name := "add", desc := "(ILjava/lang/Object;)V" } : Jvm.MethodName)) ∈ lw_tbl := lw_at lw_m3 196 rfl
theorem q979 : (Jvm.Cond.interfaceMethod "java/util/List" "java/util/List" "remove" "(I)Ljava/lang/Object;") ∈ lw_tbl := lw_at lw_m4 217 rfl
theorem q980 : (Jvm.Cond.declares ({ cls := "java/util/List", name := "remove", desc := "(I)Ljava/lang/Object;" } : Jvm.MethodName)) ∈ lw_tbl := lw_at lw_m4 218 rfl
theorem q1204 : (Jvm.Cond.interfaceMethod "java/util/List" "java/util/List" "remove" "(Ljava/lang/Object;)Z") ∈ lw_tbl := lw_at lw_m5 202 rfl
theorem q1205 : (Jvm.Cond.declares ({ cls := "java/util/List", name := "remove", desc := "(Ljava/lang/Object;)Z" } : Jvm.MethodName)) ∈ lw_tbl := lw_at lw_m5 203 rfl
theorem q1219 : (Jvm.Cond.interfaceMethod "java/util/List" "java/util/List" "isEmpty" "()Z") ∈ lw_tbl := lw_at lw_m5 217 rfl
theorem q1220 : (Jvm.Cond.declares ({ cls := "java/util/List", name := "isEmpty", desc := "()Z" } : Jvm.MethodName)) ∈ lw_tbl := lw_at lw_m5 218 rfl
theorem q1312 : (Jvm.Cond.interfaceMethod "java/util/List" "java/util/List" "set" "(ILjava/lang/Object;)Ljava/lang/Object;") ∈ lw_tbl := lw_at lw_m6 70 rfl
theorem q1313 : (Jvm.Cond.declares ({ cls := "java/util/List", name := "set", desc := "(ILjava/lang/Object;)Ljava/lang/Object;" } : Jvm.MethodName)) ∈ lw_tbl := lw_at lw_m6 71 rfl
theorem q1431 : (Jvm.Cond.interfaceMethod "java/util/List" "java/util/List" "clear" "()V") ∈ lw_tbl := lw_at lw_m6 189 rfl
theorem q1432 : (Jvm.Cond.declares ({ cls := "java/util/List", name := "clear", desc := "()V" } : Jvm.MethodName)) ∈ lw_tbl := lw_at lw_m6 190 rfl

theorem q215 : (Jvm.Cond.arrayOver (Jvm.ClassFile.FieldType.object "java/lang/Object")) ∈ lw_tbl := lw_at lw_m1 173 rfl
set_option maxRecDepth 100000
theorem q513 : (Jvm.Cond.arrayOver (Jvm.ClassFile.FieldType.object "KioskReel$Line")) ∈ lw_tbl := lw_at lw_m2 231 rfl
theorem q554 : (Jvm.Cond.arrayClass Jvm.ClassFile.FieldType.byte) ∈ lw_all := lw_g (lw_at lw_m3 32 rfl) rfl
theorem q1018 : (Jvm.Cond.arrayOver (Jvm.ClassFile.FieldType.object "KioskReel$Show")) ∈ lw_tbl := lw_at lw_m5 16 rfl
theorem q1019 : (Jvm.Cond.arrayOver (Jvm.ClassFile.FieldType.object "KioskReel$Pause")) ∈ lw_tbl := lw_at lw_m5 17 rfl
theorem q1020 : (Jvm.Cond.arrayOver (Jvm.ClassFile.FieldType.object "KioskReel$Take")) ∈ lw_tbl := lw_at lw_m5 18 rfl
theorem q1021 : (Jvm.Cond.arrayOver (Jvm.ClassFile.FieldType.object "KioskReel$Free")) ∈ lw_tbl := lw_at lw_m5 19 rfl
theorem q1022 : (Jvm.Cond.arrayOver (Jvm.ClassFile.FieldType.object "KioskReel$GoTo")) ∈ lw_tbl := lw_at lw_m5 20 rfl
theorem q1023 : (Jvm.Cond.arrayOver (Jvm.ClassFile.FieldType.object "KioskReel$IfAlone")) ∈ lw_tbl := lw_at lw_m5 21 rfl
theorem q1024 : (Jvm.Cond.arrayOver (Jvm.ClassFile.FieldType.object "KioskReel$Loop")) ∈ lw_tbl := lw_at lw_m5 22 rfl
theorem q1025 : (Jvm.Cond.arrayOver (Jvm.ClassFile.FieldType.object "KioskReel$SetCount")) ∈ lw_tbl := lw_at lw_m5 23 rfl
theorem q1026 : (Jvm.Cond.arrayOver (Jvm.ClassFile.FieldType.object "KioskReel$PlayList")) ∈ lw_tbl := lw_at lw_m5 24 rfl
theorem q1044 : (Jvm.Cond.arrayClass Jvm.ClassFile.FieldType.char) ∈ lw_all := lw_g (lw_at lw_m5 42 rfl) rfl
theorem q1492 : (Jvm.Cond.arrayClass Jvm.ClassFile.FieldType.int) ∈ lw_all := lw_g (lw_at lw_m7 10 rfl) rfl
theorem q1493 : (Jvm.Cond.arrayClass Jvm.ClassFile.FieldType.boolean) ∈ lw_all := lw_g (lw_at lw_m7 11 rfl) rfl
theorem q1864 : (Jvm.Cond.arrayClass Jvm.ClassFile.FieldType.long) ∈ lw_all := lw_g (lw_at lw_m8 142 rfl) rfl
theorem q1865 : (Jvm.Cond.arrayClass Jvm.ClassFile.FieldType.double) ∈ lw_all := lw_g (lw_at lw_m8 143 rfl) rfl
