/-! the pure machine: memory, values, evaluator -/
abbrev gM : Type := Int → Int → Int
abbrev gV : Type := Nat × Int
def gW (σ : gM) (a i v : Int) : gM := fun b j => if b = a ∧ j = i then v else σ b j
def w8 (x : Int) : Int := x.bmod 256
def w32 (x : Int) : Int := x.bmod 4294967296
def w64 (x : Int) : Int := x.bmod 18446744073709551616
def i_and (x y : Int) : Int := (Int32.ofInt x &&& Int32.ofInt y).toInt
def i_or (x y : Int) : Int := (Int32.ofInt x ||| Int32.ofInt y).toInt
def i_xor (x y : Int) : Int := (Int32.ofInt x ^^^ Int32.ofInt y).toInt
def l_and (x y : Int) : Int := (Int64.ofInt x &&& Int64.ofInt y).toInt
def l_or (x y : Int) : Int := (Int64.ofInt x ||| Int64.ofInt y).toInt
def l_xor (x y : Int) : Int := (Int64.ofInt x ^^^ Int64.ofInt y).toInt
def i_shr (x y : Int) : Int := (Int32.ofInt x >>> (Int32.ofInt y &&& 31)).toInt
def i_ushr (x y : Int) : Int := ((Int32.ofInt x).toUInt32 >>> ((Int32.ofInt y).toUInt32 &&& Int32.toUInt32 31)).toInt32.toInt
def l_shl (x y : Int) : Int := (Int64.ofInt x <<< ((Int32.ofInt y).toInt64 &&& 63)).toInt
def l_shr (x y : Int) : Int := (Int64.ofInt x >>> ((Int32.ofInt y).toInt64 &&& 63)).toInt
def l_ushr (x y : Int) : Int := ((Int64.ofInt x).toUInt64 >>> ((Int32.ofInt y).toInt64.toUInt64 &&& Int64.toUInt64 63)).toInt64.toInt
def l_cmp (x y : Int) : Int := if x < y then -1 else if x = y then 0 else 1
/-- pc, length, instruction, targets (with keys), what is kept where a block begins -/
abbrev gC : Type := Nat × Nat × Instr × List (Int × Nat) × Option (List Bool)
abbrev gFn : Type := Nat → List gV → gM → Option (gM × Int)
/-- a callee that may throw: none where it threw -/
abbrev gFt : Type := Nat → List gV → gM → Option (gM × Option Int)
def gat {α : Type} : List (Nat × α) → Nat → Option α
  | [], _ => none
  | (k, v) :: r, i => match Nat.beq k i with
    | true => some v
    | false => gat r i
def gdrop : Nat → List gC → List gC
  | _, [] => []
  | t, (pc, c) :: r => match Nat.beq pc t with
    | true => (pc, c) :: r
    | false => gdrop t r
def gkeep : List Bool → List gV → List gV
  | true :: m, v :: ls => v :: gkeep m ls
  | false :: m, _ :: ls => (9, 0) :: gkeep m ls
  | _, _ => []
/-- what a method's table holds: code; fields (kind of cell, place, kind of value); constants; callees (how many values, kind of answer); handlers; which cells it knows; the kind of its answer -/
abbrev gE : Type := List gC × List (Nat × Nat × Int × Nat) × List (Nat × gV) × List (Nat × Nat × Nat × Nat × (gFn ⊕ gFt)) × List (Nat × Nat × Nat) × (Nat × Nat) × Nat
def p1 {α : Type} (t : Nat) (st : List gV) (f : Int → List gV → Option α) : Option α := match st with
  | [] => none
  | (u, x) :: r => match Nat.beq u t with
    | true => f x r
    | false => none
/-- a reference: of a cell (2) or of a constant text (3) -/
def p1r {α : Type} (st : List gV) (f : gV → List gV → Option α) : Option α := match st with
  | [] => none
  | (u, x) :: r => match Nat.beq u 2 with
    | true => f (2, x) r
    | false => match Nat.beq u 3 with
      | true => f (3, x) r
      | false => match Nat.beq u 4 with
        | true => f (4, x) r
        | false => none
def gset : List gV → Nat → gV → List gV
  | [], _, _ => []
  | _ :: r, 0, v => v :: r
  | (u, y) :: r, 1, v => (match Nat.beq u 1 with
    | true => (9, 0) :: gset r 0 v
    | false => (u, y) :: gset r 0 v)
  | x :: r, k + 2, v => x :: gset r (k + 1) v
/-- the same, the list written out before it is handed on -/
def gsetK {ρ : Type} : List gV → Nat → gV → (List gV → Option ρ) → Option ρ
  | [], _, _, K => K []
  | _ :: r, 0, v, K => K (v :: r)
  | (u, y) :: r, 1, v, K => (match Nat.beq u 1 with
    | true => gsetK r 0 v (fun r => K ((9, 0) :: r))
    | false => gsetK r 0 v (fun r => K ((u, y) :: r)))
  | x :: r, k + 2, v, K => gsetK r (k + 1) v (fun r => K (x :: r))
def gput2K {ρ : Type} : List gV → Nat → (List gV → Option ρ) → Option ρ
  | [], _, K => K []
  | _ :: r, 0, K => K ((9, 0) :: r)
  | x :: r, k + 1, K => gput2K r k (fun r => K (x :: r))
def glk {ρ : Type} (f : Nat → Int → Option ρ) : List gV → Nat → Option ρ
  | [], _ => none
  | (u, x) :: _, 0 => f u x
  | _ :: r, k + 1 => glk f r k
def gput2 : List gV → Nat → List gV
  | [], _ => []
  | _ :: r, 0 => (9, 0) :: r
  | x :: r, k + 1 => x :: gput2 r k
def gset2 (ls : List gV) (k : Nat) (v : gV) : List gV := gput2 (gset ls k v) (k + 1)
def gtake : Nat → List gV → List gV → Option (List gV × List gV)
  | 0, st, acc => some (acc, st)
  | _ + 1, [], _ => none
  | k + 1, v :: st, acc => gtake k st (v :: acc)
def gtry {ρ : Type} (o : Option Int) (a : Int → Option ρ) (b : Option ρ) : Option ρ := match o with
  | some v => a v
  | none => b
def gsw {ρ : Type} (x : Int) (d : Nat) (f : Nat → Option ρ) : List (Int × Nat) → Option ρ
  | [] => f d
  | (k, t) :: r => if x = k then f t else gsw x d f r
/-- the cells: their kinds (1 ints, 2 bytes, 3 truths, 4 longs, 5 texts, 10.. objects), lengths, constant references -/
def gTot : Nat := 227
def gKT : Nat := 36724732461032828890761384393033302184063165124144962377123695612588341206945510851077571598577438945674866280287130490901441514005644233077617056909814787293490170561648704155579739777483164401515660129760357736026276506904181492212895889781462643401237805978065867400806201002189908463508951216691622085141288156163513859480107729144362178166375827766027358724702109376707490474910364774997528668894844475668674045323902701668057235615613574706625232677434619899813599024809133428325335761382901426446638514782915032074408366942297479176061450
def gNT : Nat := 447701586370693553122664641378774888310320123053961593028745238439925890678576875806965528418351152479573302765622982526870956248827140610075292610343677989719149016322015645444320290280010786550006716495183352553177632931533136275780599211927241204411118979793943166241849606346205491522193363095389022563699738790343031977154248314772102795515986228024248125252615369077065418407155192298964390679803423039594452579041398048152937936472404720380914907985256472794848281097497056249508013892925664671756046328417160809407542523469561255505576058042120473349270568204199969029735247704525585620698720468779047004976642415576157160031814907512167284692468205327151637568896792852901630331988672433739344803611812251090426847121204983826081316240407408901631972698037124102237283618720473317683118544982149644249184665453840825829638056075702133644696623855502106955763904994552928786178151806386311169559443041771025723778926043863509389511496967369612176134786504295539990641481360235004806245889245788119415119151005984878414426715935319450378739344508636429037406383462334085024258463510356596284752275182673071374280813875661172066485704811099045535484300437785432716054410881131282314483892388185083250811036833238278492444187013932254901344877950479290145351720466455190371326928786386403809529485775495259632473217676180011910319522899271450515741635863044888447862181249872388880606300813710918065567184120519234151063232765279298065450202182755518893431036689772352056448425242036660860254742699874284213451163078390758392288280122144497879516699234117648758743406023419797316745912690935297708616098614447639565439788554682835420676174151932898558097462599770784043494438137791776823088110415440130575993664064971837721778206872068067833568782162606496573984041638552777998471315528447445158048201511275181834920394792254966184039169649813924222625136552098872238752782712174427701380390051468972954983758847766572922339587302551640374424420946073582314593696767630443509705333754934296266551124882664902902594244949182170879895034656537428460550409648189691092472364911213153543292415388353033773084751154276723266363866250704703585083535152826326923996741390294608510976
def gBT : Nat := 33904990107620726808874612497421690565527561751927425095972786830317161762268114017123937369052956588538217266968735256644647288191337287152967643154193390498740761545964043694923560296473385882247740849728880786722527432677089625146990009846608040427768489882505037572154010938075909292287677740283394302512716500489196419408294187155757153277038360342187483275848690318131547465552708073307907348332474677850401790326460485313787356718218868527524608369780718265574795893302296827802972836344424525098231926546535407855769947106793806935882617242025831338035328941857518143930368
def gRT : Nat := 37284124491654402483847099351513097053560772909088051248081047588493317769576182505134060350351532127106847872517079376699447852374957481544760056162329735367923512443034684665446961290182710252689018707805807202780122817858863903009953093526912794247853484671845679460505254058631878337446694460964765287733631949759722098043187984785133946939848939586842106127964885412236169287542207754254549444043755172183353218626585747172327231892087728439892577156707484902048391740760600914534845506880594734814931123774615707209166845532364185013034834934188926955922625630585794023807295855258052362412042714224654525897228382273154468438688002655431585740436021548171412986496276499796502487084210775960993828477343946485614603024036922289409687010087841015811144185610522235105033395598410571270206728367131359471196782798053282805560453030685632869995471393281685644102095955196714790003364325350597727312510444394919143486788183488183021677417533151315003520270457889228688119424679329456545909426007575248454283994999894388867407548739828336148555802403188750434117550450622146346662467323193696386151058135206518135656072350834527041752904699047345913047022933202935437007267835788327602424700198516982106999562962525098164024513549394344899210479430506249680512984671751606973069953117108998278327913439265546367272171951002087796440421466569075448789566876571522228836661700188207601008493996590275286699102504632456774266074972094589681766531841551788676339012998073156517676616437450135534009246631922700771149453880807114444570397247941373109023203536071033260718001662300224545941766441013321401975254929343801889529709986707919320879693865526040746801048643305460376156262472463640672637863198721
def gK (a : Int) : Nat := match a with
  | .ofNat k => (gKT >>> (8 * k)) % 256
  | .negSucc _ => 0
def gN (a : Int) : Int := Int.ofNat ((gNT >>> (32 * a.toNat)) % 4294967296)
def gR (a k : Int) : Int := Int.ofNat ((gRT >>> (16 * ((gBT >>> (16 * a.toNat)) % 65536 + k.toNat))) % 65536)
def gStop : Int := 120
/-- the cell a, one of those below m, is of the kind c -/
def gis {ρ : Type} (m : Nat) (a : Int) (c : Nat) (x : Option ρ) : Option ρ := match Nat.beq (gK a) c && Nat.blt a.toNat m with
  | true => x
  | false => none
/-- a is an array (of bytes or truths; of any kind) -/
def gisb {ρ : Type} (m : Nat) (a : Int) (x : Option ρ) : Option ρ := match (Nat.beq (gK a) 2 || Nat.beq (gK a) 3) && Nat.blt a.toNat m with
  | true => x
  | false => none
def gisa {ρ : Type} (m : Nat) (a : Int) (x : Option ρ) : Option ρ := match (Nat.ble 1 (gK a) && Nat.ble (gK a) 5) && Nat.blt a.toNat m with
  | true => x
  | false => none
/-- the number of a place that is written to: an array's, or a field's -/
def gfid (a k : Int) : Nat := match Nat.ble 10 (gK a) with
  | true => 256 + (gBT >>> (16 * a.toNat)) % 65536 + k.toNat
  | false => a.toNat
def gbit (w : Nat) (a k : Int) : Bool := Nat.beq ((w >>> gfid a k) % 2) 1
/-- the place may be written to -/
def gwr {ρ : Type} (w : Nat) (a k : Int) (x : Option ρ) : Option ρ := match gbit w a k with
  | true => x
  | false => none
/-- constant texts: how many letters, which -/
def gStrN : Nat := 23
def gStrLen : List Nat := [4, 5, 3, 4, 6, 4, 5, 6, 6, 8, 6, 4, 5, 61, 19, 2, 4, 5, 6, 5, 8, 17, 2]
def gStrByt : List (List Int32) := [[109, 97, 105, 110], [112, 114, 105, 110, 116], [110, 101, 119], [107, 105, 110, 100], [100, 101, 102, 105, 110, 101], [110, 117, 108, 108], [116, 114, 117, 116, 104], [110, 117, 109, 98, 101, 114], [115, 116, 114, 105, 110, 103], [102, 117, 110, 99, 116, 105, 111, 110], [111, 98, 106, 101, 99, 116], [116, 114, 117, 101], [102, 97, 108, 115, 101], [102, 117, 110, 99, 116, 105, 111, 110, 32, 105, 102, 32, 101, 108, 115, 101, 32, 119, 104, 105, 108, 101, 32, 114, 101, 116, 117, 114, 110, 32, 98, 114, 101, 97, 107, 32, 99, 111, 110, 116, 105, 110, 117, 101, 32, 116, 114, 117, 101, 32, 102, 97, 108, 115, 101, 32, 110, 117, 108, 108, 32], [40, 41, 123, 125, 91, 93, 44, 59, 46, 61, 33, 60, 62, 43, 45, 42, 47, 38, 124], [105, 102], [101, 108, 115, 101], [119, 104, 105, 108, 101], [114, 101, 116, 117, 114, 110], [98, 114, 101, 97, 107], [99, 111, 110, 116, 105, 110, 117, 101], [40, 41, 123, 125, 91, 93, 44, 59, 46, 61, 33, 60, 62, 43, 45, 42, 47], [123, 125]]
def gsl (s : Int) : Int := ((gStrLen.getD s.toNat 0 : Nat) : Int)
def gsc (s i : Int) : Int := ((gStrByt.getD s.toNat []).getD i.toNat 0).toInt
/-- two cells are one -/
def geq {ρ : Type} (v w : Int) (x : Option ρ) : Option ρ := match decide (v = w) with
  | true => x
  | false => none
/-- x numbers a constant text -/
def gtx {ρ : Type} (x : Int) (y : Option ρ) : Option ρ := match x with
  | .ofNat k => (match Nat.blt k 23 with
    | true => y
    | false => none)
  | .negSucc _ => none
def g01 {ρ : Type} (v : Int) (x : Option ρ) : Option ρ := match decide (v = 0) || decide (v = 1) with
  | true => x
  | false => none
def gwe {ρ : Type} (E : gE) (a k : Int) (x : Option ρ) : Option ρ := match E with
  | (_, _, _, _, _, (_, w), _) => gwr w a k x
def ghnd : List (Nat × Nat × Nat) → Nat → Option Nat
  | [], _ => none
  | (a, b, t) :: r, pc => match Nat.ble a pc && Nat.blt pc b with
    | true => some t
    | false => ghnd r pc
section
variable {ρ : Type} (E : gE) (n : Nat) (nx : List gV → List gV → gM → Option ρ) (jp : Nat → List gV → List gV → gM → Option ρ) (ret : gM → Int → Option ρ) (thr : gM → Int → Option ρ) (pc : Nat) (tg : List (Int × Nat)) (ls st : List gV) (σ : gM)
def gtgt (tg : List (Int × Nat)) : Nat := match tg with
  | [] => 0
  | (_, t) :: _ => t
def gii (f : Int → Int → Int) : Option ρ := p1 0 st fun y st => p1 0 st fun x st => nx ls ((0, f x y) :: st) σ
def gll (f : Int → Int → Int) : Option ρ := p1 1 st fun y st => p1 1 st fun x st => nx ls ((1, f x y) :: st) σ
def gld (t k : Nat) : Option ρ := glk (fun u x => match Nat.beq u t with
    | true => nx ls ((t, x) :: st) σ
    | false => none) ls k
def glda (k : Nat) : Option ρ := glk (fun u x => match Nat.beq u 2 with
    | true => nx ls ((2, x) :: st) σ
    | false => match Nat.beq u 3 with
      | true => nx ls ((3, x) :: st) σ
      | false => match Nat.beq u 4 with
        | true => nx ls ((4, x) :: st) σ
        | false => none) ls k
def ginc (k : Nat) (d : Int) : Option ρ := glk (fun u x => match Nat.beq u 0 with
    | true => gsetK ls k (0, w32 (x + d)) fun ls => nx ls st σ
    | false => none) ls k
def gif (c : ClassFile.Cond) (x y : Int) (st : List gV) : Option ρ := match c with
  | .eq => if x = y then jp (gtgt tg) ls st σ else nx ls st σ
  | .ne => if x = y then nx ls st σ else jp (gtgt tg) ls st σ
  | .lt => if x < y then jp (gtgt tg) ls st σ else nx ls st σ
  | .ge => if x < y then nx ls st σ else jp (gtgt tg) ls st σ
  | .gt => if y < x then jp (gtgt tg) ls st σ else nx ls st σ
  | .le => if y < x then nx ls st σ else jp (gtgt tg) ls st σ
def gget (idx : Nat) : Option ρ := match gat E.2.1 idx with
  | none => none
  | some (c, k, t) => match Nat.ble 100 c with
    | true => (match Nat.beq c 100 with
      | true => p1 3 st fun s st => gtx s (match Nat.beq t 0 with
        | true => nx ls ((4, s) :: st) σ
        | false => nx ls ((0, 0) :: st) σ)
      | false => none)
    | false => p1 2 st fun o st => gis E.2.2.2.2.2.1.1 o c
      (match t with
      | 0 => nx ls ((0, σ o k) :: st) σ
      | 1 => nx ls ((1, σ o k) :: st) σ
      | 2 => nx ls ((2, gR o k) :: st) σ
      | 3 => if 0 ≤ σ o k then nx ls ((2, σ o k) :: st) σ else none
      | 4 => if 0 ≤ σ o k then nx ls ((2, gR o k) :: st) σ else none
      | _ => nx ls ((0, σ o k) :: st) σ)
/-- a static field: of a constant value -/
def gsta (idx : Nat) : Option ρ := match gat E.2.1 idx with
  | none => none
  | some (c, x, t) => match Nat.beq c 101 with
    | true => nx ls ((t, x) :: st) σ
    | false => none
def gput (idx : Nat) : Option ρ := match gat E.2.1 idx with
  | none => none
  | some (c, k, t) => match Nat.ble 100 c with
    | true => none
    | false => match t with
      | 0 => p1 0 st fun v st => p1 2 st fun o st => gis E.2.2.2.2.2.1.1 o c (gwe E o k (nx ls st (gW σ o k v)))
      | 1 => p1 1 st fun v st => p1 2 st fun o st => gis E.2.2.2.2.2.1.1 o c (gwe E o k (nx ls st (gW σ o k v)))
      | 3 => p1 2 st fun v st => p1 2 st fun o st => gis E.2.2.2.2.2.1.1 o c (gwe E o k (if 0 ≤ v then nx ls st (gW σ o k v) else none))
      | 4 => p1 2 st fun v st => p1 2 st fun o st => gis E.2.2.2.2.2.1.1 o c (gwe E o k (geq v (gR o k) (nx ls st (gW σ o k v))))
      | 7 => p1 0 st fun v st => p1 2 st fun o st => gis E.2.2.2.2.2.1.1 o c (gwe E o k (g01 v (nx ls st (gW σ o k v))))
      | _ => none
def gald (c t : Nat) : Option ρ := p1 0 st fun i st => p1 2 st fun a st => gis E.2.2.2.2.2.1.1 a c (if 0 ≤ i ∧ i < gN a then nx ls ((t, σ a i) :: st) σ else none)
def galb : Option ρ := p1 0 st fun i st => match st with
  | [] => none
  | (u, s) :: r => match Nat.beq u 4 with
    | true => gtx s (if 0 ≤ i ∧ i < gsl s then nx ls ((0, gsc s i) :: r) σ else none)
    | false => p1 2 ((u, s) :: r) fun a st => gisb E.2.2.2.2.2.1.1 a (if 0 ≤ i ∧ i < gN a then nx ls ((0, σ a i) :: st) σ else none)
def gast (c t : Nat) : Option ρ := p1 t st fun v st => p1 0 st fun i st => p1 2 st fun a st => gis E.2.2.2.2.2.1.1 a c (gwe E a 0 (if 0 ≤ i ∧ i < gN a then nx ls st (gW σ a i v) else none))
def gasb : Option ρ := p1 0 st fun v st => p1 0 st fun i st => p1 2 st fun a st => gisb E.2.2.2.2.2.1.1 a (gwe E a 0 (if 0 ≤ i ∧ i < gN a then (match Nat.beq (gK a) 2 with
  | true => nx ls st (gW σ a i (w8 v))
  | false => g01 v (nx ls st (gW σ a i v))) else none))
def gback (rt : Nat) (v : Int) (st : List gV) (σ : gM) : Option ρ := match Nat.beq rt 5 with
  | true => nx ls st σ
  | false => nx ls ((rt, v) :: st) σ
/-- at most so many words wait -/
def glight : Nat → List gV → Bool
  | _, [] => true
  | 0, _ :: _ => false
  | b + 1, (u, _) :: r => match Nat.beq u 1 with
    | true => (match b with | 0 => false | d + 1 => glight d r)
    | false => glight b r
/-- the receiver: none (0), a constant text (100), a cell of a kind -/
def grecv (rc : Nat) (as : List gV) (x : Option ρ) : Option ρ := match rc with
  | 0 => x
  | 100 => (match as with
    | [] => none
    | (t, o) :: _ => match Nat.beq t 3 with
      | true => gtx o x
      | false => none)
  | c => (match as with
    | [] => none
    | (t, o) :: _ => match Nat.beq t 2 with
      | true => gis E.2.2.2.2.2.1.1 o c x
      | false => none)
def gcall (vi : Bool) (idx : Nat) : Option ρ := match gat E.2.2.2.1 idx with
  | none => none
  | some (k, rc, rt, f) => match Bool.xor vi (Nat.beq rc 0) with
    | false => none
    | true => match gtake k st [] with
      | none => none
      | some (as, st) => match glight 8 st with
        | false => none
        | true => grecv E rc as (match f with
          | .inl f => (f n as σ).bind fun p => gback nx ls rt p.2 st p.1
          | .inr f => (f n as σ).bind fun p => gtry p.2 (fun v => gback nx ls rt v st p.1) (match ghnd E.2.2.2.2.1 pc with
            | none => thr p.1 gStop
            | some t => jp t ls [(2, gStop)] p.1))
def gcst (w : Bool) (k : Nat) : Option ρ := match gat E.2.2.1 k with
  | none => none
  | some (t, x) => match Bool.xor w (Nat.beq t 1) with
    | true => none
    | false => nx ls ((t, x) :: st) σ
def g0 (st : List gV) (x : Option ρ) : Option ρ := match st with
  | [] => x
  | _ :: _ => none
def grk (k : Nat) (x : Option ρ) : Option ρ := match Nat.beq E.2.2.2.2.2.2 k with
  | true => x
  | false => none
/-- an int's end: of an int (0), of a truth (6) -/
def grz (v : Int) (x : Option ρ) : Option ρ := match E.2.2.2.2.2.2 with
  | 0 => x
  | 6 => g01 v x
  | 7 => if 0 ≤ v ∧ v ≤ 65535 then x else none
  | 8 => if -128 ≤ v ∧ v ≤ 127 then x else none
  | _ => none
def gex (i : Instr) : Option ρ := match i with
  | .iconst v => nx ls ((0, v) :: st) σ
  | .bipush v => nx ls ((0, v) :: st) σ
  | .sipush v => nx ls ((0, v) :: st) σ
  | .lconst v => nx ls ((1, (v.val : Int)) :: st) σ
  | .ldc k => gcst E nx ls st σ false k
  | .ldc_w k => gcst E nx ls st σ false k
  | .ldc2_w k => gcst E nx ls st σ true k
  | .iload k => gld nx ls st σ 0 k
  | .iload_n k => gld nx ls st σ 0 k.val
  | .lload k => gld nx ls st σ 1 k
  | .lload_n k => gld nx ls st σ 1 k.val
  | .aload k => glda nx ls st σ k
  | .aload_n k => glda nx ls st σ k.val
  | .istore k => p1 0 st fun x st => gsetK ls k (0, x) fun ls => nx ls st σ
  | .istore_n k => p1 0 st fun x st => gsetK ls k.val (0, x) fun ls => nx ls st σ
  | .lstore k => p1 1 st fun x st => gsetK ls k (1, x) fun ls => gput2K ls (k + 1) fun ls => nx ls st σ
  | .lstore_n k => p1 1 st fun x st => gsetK ls k.val (1, x) fun ls => gput2K ls (k.val + 1) fun ls => nx ls st σ
  | .astore k => p1r st fun x st => gsetK ls k x fun ls => nx ls st σ
  | .astore_n k => p1r st fun x st => gsetK ls k.val x fun ls => nx ls st σ
  | .iinc k d => ginc nx ls st σ k d
  | .iadd => gii nx ls st σ (fun x y => w32 (x + y))
  | .isub => gii nx ls st σ (fun x y => w32 (x - y))
  | .imul => gii nx ls st σ (fun x y => w32 (x * y))
  | .iand => gii nx ls st σ i_and
  | .ior => gii nx ls st σ i_or
  | .ixor => gii nx ls st σ i_xor
  | .ishr => gii nx ls st σ i_shr
  | .iushr => gii nx ls st σ i_ushr
  | .idiv => p1 0 st fun y st => p1 0 st fun x st => if y = 0 then none else nx ls ((0, w32 (x.tdiv y)) :: st) σ
  | .irem => p1 0 st fun y st => p1 0 st fun x st => if y = 0 then none else nx ls ((0, x.tmod y) :: st) σ
  | .ineg => p1 0 st fun x st => nx ls ((0, w32 (-x)) :: st) σ
  | .ladd => gll nx ls st σ (fun x y => w64 (x + y))
  | .lsub => gll nx ls st σ (fun x y => w64 (x - y))
  | .lmul => gll nx ls st σ (fun x y => w64 (x * y))
  | .land => gll nx ls st σ l_and
  | .lor => gll nx ls st σ l_or
  | .lxor => gll nx ls st σ l_xor
  | .ldiv => p1 1 st fun y st => p1 1 st fun x st => if y = 0 then none else nx ls ((1, w64 (x.tdiv y)) :: st) σ
  | .lrem => p1 1 st fun y st => p1 1 st fun x st => if y = 0 then none else nx ls ((1, x.tmod y) :: st) σ
  | .lneg => p1 1 st fun x st => nx ls ((1, w64 (-x)) :: st) σ
  | .lshl => p1 0 st fun y st => p1 1 st fun x st => nx ls ((1, l_shl x y) :: st) σ
  | .lshr => p1 0 st fun y st => p1 1 st fun x st => nx ls ((1, l_shr x y) :: st) σ
  | .lushr => p1 0 st fun y st => p1 1 st fun x st => nx ls ((1, l_ushr x y) :: st) σ
  | .lcmp => p1 1 st fun y st => p1 1 st fun x st => nx ls ((0, l_cmp x y) :: st) σ
  | .i2l => p1 0 st fun x st => nx ls ((1, x) :: st) σ
  | .l2i => p1 1 st fun x st => nx ls ((0, w32 x) :: st) σ
  | .i2b => p1 0 st fun x st => nx ls ((0, w8 x) :: st) σ
  | .dup => (match st with
    | [] => none
    | (t, x) :: r => match Nat.beq t 1 with
      | true => none
      | false => nx ls ((t, x) :: (t, x) :: r) σ)
  | .dup2 => (match st with
    | (t, x) :: (u, y) :: r => match Nat.beq t 1 || Nat.beq u 1 with
      | true => none
      | false => nx ls ((t, x) :: (u, y) :: (t, x) :: (u, y) :: r) σ
    | _ => none)
  | .pop => (match st with
    | [] => none
    | (t, _) :: r => match Nat.beq t 1 with
      | true => none
      | false => nx ls r σ)
  | .ifCond c _ => p1 0 st fun x st => gif nx jp tg ls σ c x 0 st
  | .if_icmp c _ => p1 0 st fun y st => p1 0 st fun x st => gif nx jp tg ls σ c x y st
  | .goto _ => jp (gtgt tg) ls st σ
  | .tableswitch _ _ _ _ => p1 0 st fun x st => (match tg with | [] => none | (_, d) :: r => gsw x d (fun t => jp t ls st σ) r)
  | .lookupswitch _ _ => p1 0 st fun x st => (match tg with | [] => none | (_, d) :: r => gsw x d (fun t => jp t ls st σ) r)
  | .getfield k => gget E nx ls st σ k
  | .putfield k => gput E nx ls st σ k
  | .iaload => gald E nx ls st σ 1 0
  | .laload => gald E nx ls st σ 4 1
  | .aaload => gald E nx ls st σ 5 3
  | .baload => galb E nx ls st σ
  | .iastore => gast E nx ls st σ 1 0
  | .lastore => gast E nx ls st σ 4 1
  | .bastore => gasb E nx ls st σ
  | .arraylength => (match st with
    | [] => none
    | (u, s) :: r => match Nat.beq u 4 with
      | true => gtx s (nx ls ((0, gsl s) :: r) σ)
      | false => p1 2 ((u, s) :: r) fun a st => gisa E.2.2.2.2.2.1.1 a (nx ls ((0, gN a) :: st) σ))
  | .getstatic k => gsta E nx ls st σ k
  | .i2c => p1 0 st fun x st => nx ls ((0, x % 65536) :: st) σ
  | .invokevirtual k => gcall E n nx jp thr pc ls st σ true k
  | .invokestatic k => gcall E n nx jp thr pc ls st σ false k
  | .ireturn => p1 0 st fun x st => g0 st (grz E x (ret σ x))
  | .lreturn => grk E 1 (p1 1 st fun x st => g0 st (ret σ x))
  | .areturn => grk E 2 (p1 2 st fun x st => g0 st (ret σ x))
  | .return_ => grk E 5 (g0 st (ret σ 0))
  | .athrow => p1 2 st fun x _ => (match ghnd E.2.2.2.2.1 pc with
    | none => thr σ x
    | some _ => none)
  | _ => none
end
def gev {ρ : Type} (E : gE) (n : Nat) (ret thr : gM → Int → Option ρ) (kont : Nat → List gV → List gV → gM → Option ρ) : Nat → Bool → List gC → List gV → List gV → gM → Option ρ
  | 0, _, _, _, _, _ => none
  | _ + 1, _, [], _, _, _ => none
  | K + 1, chk, (pc, _, i, tg, sp) :: rest, ls, st, σ => match chk, sp with
    | true, some keep => kont pc (gkeep keep ls) st σ
    | _, _ => gex E n (gev E n ret thr kont K true rest) (fun t => gev E n ret thr kont K true (gdrop t E.1)) ret thr pc tg ls st σ i
def gB {ρ : Type} (E : gE) (ret thr : gM → Int → Option ρ) : Nat → Nat → List gV → List gV → gM → Option ρ
  | 0, _, _, _, _ => none
  | n + 1, pc, ls, st, σ => gev E n ret thr (gB E ret thr n) 1000 false (gdrop pc E.1) ls st σ
def gpad : Nat → List gV → List gV
  | 0, _ => []
  | k + 1, [] => (9, 0) :: gpad k []
  | k + 1, (u, x) :: r => match Nat.beq u 1 with
    | true => (match k with | 0 => [(u, x)] | j + 1 => (u, x) :: (9, 0) :: gpad j r)
    | false => (u, x) :: gpad k r
def gpadK {ρ : Type} : Nat → List gV → (List gV → Option ρ) → Option ρ
  | 0, _, K => K []
  | k + 1, [], K => gpadK k [] (fun r => K ((9, 0) :: r))
  | k + 1, (u, x) :: r, K => match Nat.beq u 1 with
    | true => (match k with | 0 => K [(u, x)] | j + 1 => gpadK j r (fun r => K ((u, x) :: (9, 0) :: r)))
    | false => gpadK k r (fun r => K ((u, x) :: r))
def rF (σ : gM) (v : Int) : Option (gM × Int) := some (σ, v)
def tF (_ : gM) (_ : Int) : Option (gM × Int) := none
def rG (σ : gM) (v : Int) : Option (gM × Option Int) := some (σ, some v)
/-- a method that returns -/
def gF (E : gE) (L : Nat) : gFn := fun n as σ => match glight L as with
  | false => none
  | true => gpadK L as fun ls => gB E rF tF n 0 ls [] σ
/-- a method that may throw the model's one Stop -/
def gthr (σ : gM) (x : Int) : Option (gM × Option Int) := if x = gStop then some (σ, none) else none
def gG (E : gE) (L : Nat) : gFt := fun n as σ => match glight L as with
  | false => none
  | true => gpadK L as fun ls => gB E rG gthr n 0 ls [] σ
